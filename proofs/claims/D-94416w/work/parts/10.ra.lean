variable {d a b e f : Nat} {ls : List Slot} {st : List Value} {h : xH} {x y z x1 x2 x3 x4 x5 x6 x7 x8 : Int32} {u v u1 u2 u3 u4 u5 u6 : Int64} {r1 r2 r3 r4 r5 r6 : Nat} {s0 s1 s2 s3 s4 s5 s6 s7 s8 s9 s10 s11 s12 s13 : Slot} {q : Option Nat}
/-! java/util/AbstractCollection.<init> -/
theorem wJ0_init_0 : E_ d mJ0_init 0 [.val (.ref a)] st h = E_ d mJ0_init 1 [.val (.ref a)] (.ref a :: st) h := e_go dJ0_init_0 rfl rfl
theorem wJ0_init_1 : E_ d mJ0_init 1 ls [.ref a] h = E_ d mJ0_init 4 ls [] h := e_go dJ0_init_1 rfl rfl
theorem wJ0_init_4 : E_ d mJ0_init 4 ls [] h = some (none, h) := e_rt dJ0_init_4 rfl rfl
/-! java/util/AbstractList.<init> -/
theorem wJ1_init_0 : E_ d mJ1_init 0 [.val (.ref a)] st h = E_ d mJ1_init 1 [.val (.ref a)] (.ref a :: st) h := e_go dJ1_init_0 rfl rfl
theorem wJ1_init_1 : E_ (d + 1) mJ1_init 1 ls [.ref a] h = (C_ d mJ0_init [.ref a] h).bind fun r => E_ (d + 1) mJ1_init 4 ls (xpu r.1 []) r.2 := e_call dJ1_init_1 rfl rfl
theorem wJ1_init_4 : E_ d mJ1_init 4 [.val (.ref a)] st h = E_ d mJ1_init 5 [.val (.ref a)] (.ref a :: st) h := e_go dJ1_init_4 rfl rfl
theorem wJ1_init_5 : E_ d mJ1_init 5 ls st h = E_ d mJ1_init 6 ls (.int (nI 0) :: st) h := e_iconst dJ1_init_5 kiconst_0 rfl
theorem wJ1_init_6 (ht : oT h a = 4) : E_ d mJ1_init 6 ls (.int x :: .ref a :: st) h = E_ d mJ1_init 9 ls st (pI h a (va_up (oI h a) 0 x)) := e_putI dJ1_init_6 rfl rfl ht
theorem wJ1_init_9 : E_ d mJ1_init 9 ls [] h = some (none, h) := e_rt dJ1_init_9 rfl rfl
/-! java/util/Objects.checkIndex -/
theorem wJ10_checkIndex_0 : E_ d mJ10_checkIndex 0 [.val (.int x), s1] st h = E_ d mJ10_checkIndex 1 [.val (.int x), s1] (.int x :: st) h := e_go dJ10_checkIndex_0 rfl rfl
theorem wJ10_checkIndex_1 : E_ d mJ10_checkIndex 1 [s0, .val (.int x)] st h = E_ d mJ10_checkIndex 2 [s0, .val (.int x)] (.int x :: st) h := e_go dJ10_checkIndex_1 rfl rfl
theorem wJ10_checkIndex_2 : E_ d mJ10_checkIndex 2 ls st h = E_ d mJ10_checkIndex 3 ls (.null :: st) h := e_go dJ10_checkIndex_2 rfl rfl
theorem wJ10_checkIndex_3 : E_ (d + 1) mJ10_checkIndex 3 ls [.null, .int x2, .int x1] h = (C_ d mJ5_checkIndex [.int x1, .int x2, .null] h).bind fun r => E_ (d + 1) mJ10_checkIndex 6 ls (xpu r.1 []) r.2 := e_call dJ10_checkIndex_3 rfl rfl
theorem wJ10_checkIndex_6 : E_ d mJ10_checkIndex 6 ls [.int x] h = some (some (.int x), h) := e_rt dJ10_checkIndex_6 rfl rfl
/-! java/lang/Integer.bitCount -/
theorem wJ11_bitCount_0 : E_ d mJ11_bitCount 0 [.val (.int x)] st h = E_ d mJ11_bitCount 1 [.val (.int x)] (.int x :: st) h := e_go dJ11_bitCount_0 rfl rfl
theorem wJ11_bitCount_1 : E_ d mJ11_bitCount 1 [.val (.int x)] st h = E_ d mJ11_bitCount 2 [.val (.int x)] (.int x :: st) h := e_go dJ11_bitCount_1 rfl rfl
theorem wJ11_bitCount_2 : E_ d mJ11_bitCount 2 ls st h = E_ d mJ11_bitCount 3 ls (.int (nI 1) :: st) h := e_iconst dJ11_bitCount_2 kiconst_1 rfl
theorem wJ11_bitCount_3 : E_ d mJ11_bitCount 3 ls (.int y :: .int x :: st) h = E_ d mJ11_bitCount 4 ls (.int ((x.toUInt32 >>> (y.toUInt32 &&& Int32.toUInt32 31)).toInt32) :: st) h := e_go dJ11_bitCount_3 rfl rfl
theorem wJ11_bitCount_4 : E_ d mJ11_bitCount 4 ls st h = E_ d mJ11_bitCount 7 ls (.int (nI 1431655765) :: st) h := e_go dJ11_bitCount_4 rfl rfl
theorem wJ11_bitCount_7 : E_ d mJ11_bitCount 7 ls (.int y :: .int x :: st) h = E_ d mJ11_bitCount 8 ls (.int (x &&& y) :: st) h := e_go dJ11_bitCount_7 rfl rfl
theorem wJ11_bitCount_8 : E_ d mJ11_bitCount 8 ls (.int y :: .int x :: st) h = E_ d mJ11_bitCount 9 ls (.int (x - y) :: st) h := e_go dJ11_bitCount_8 rfl rfl
theorem wJ11_bitCount_9 : E_ d mJ11_bitCount 9 [s0] (.int x :: st) h = E_ d mJ11_bitCount 10 [.val (.int x)] st h := e_go dJ11_bitCount_9 rfl rfl
theorem wJ11_bitCount_10 : E_ d mJ11_bitCount 10 [.val (.int x)] st h = E_ d mJ11_bitCount 11 [.val (.int x)] (.int x :: st) h := e_go dJ11_bitCount_10 rfl rfl
theorem wJ11_bitCount_11 : E_ d mJ11_bitCount 11 ls st h = E_ d mJ11_bitCount 14 ls (.int (nI 858993459) :: st) h := e_go dJ11_bitCount_11 rfl rfl
theorem wJ11_bitCount_14 : E_ d mJ11_bitCount 14 ls (.int y :: .int x :: st) h = E_ d mJ11_bitCount 15 ls (.int (x &&& y) :: st) h := e_go dJ11_bitCount_14 rfl rfl
theorem wJ11_bitCount_15 : E_ d mJ11_bitCount 15 [.val (.int x)] st h = E_ d mJ11_bitCount 16 [.val (.int x)] (.int x :: st) h := e_go dJ11_bitCount_15 rfl rfl
theorem wJ11_bitCount_16 : E_ d mJ11_bitCount 16 ls st h = E_ d mJ11_bitCount 17 ls (.int (nI 2) :: st) h := e_iconst dJ11_bitCount_16 kiconst_2 rfl
theorem wJ11_bitCount_17 : E_ d mJ11_bitCount 17 ls (.int y :: .int x :: st) h = E_ d mJ11_bitCount 18 ls (.int ((x.toUInt32 >>> (y.toUInt32 &&& Int32.toUInt32 31)).toInt32) :: st) h := e_go dJ11_bitCount_17 rfl rfl
theorem wJ11_bitCount_18 : E_ d mJ11_bitCount 18 ls st h = E_ d mJ11_bitCount 21 ls (.int (nI 858993459) :: st) h := e_go dJ11_bitCount_18 rfl rfl
theorem wJ11_bitCount_21 : E_ d mJ11_bitCount 21 ls (.int y :: .int x :: st) h = E_ d mJ11_bitCount 22 ls (.int (x &&& y) :: st) h := e_go dJ11_bitCount_21 rfl rfl
theorem wJ11_bitCount_22 : E_ d mJ11_bitCount 22 ls (.int y :: .int x :: st) h = E_ d mJ11_bitCount 23 ls (.int (x + y) :: st) h := e_go dJ11_bitCount_22 rfl rfl
theorem wJ11_bitCount_23 : E_ d mJ11_bitCount 23 [s0] (.int x :: st) h = E_ d mJ11_bitCount 24 [.val (.int x)] st h := e_go dJ11_bitCount_23 rfl rfl
theorem wJ11_bitCount_24 : E_ d mJ11_bitCount 24 [.val (.int x)] st h = E_ d mJ11_bitCount 25 [.val (.int x)] (.int x :: st) h := e_go dJ11_bitCount_24 rfl rfl
theorem wJ11_bitCount_25 : E_ d mJ11_bitCount 25 [.val (.int x)] st h = E_ d mJ11_bitCount 26 [.val (.int x)] (.int x :: st) h := e_go dJ11_bitCount_25 rfl rfl
theorem wJ11_bitCount_26 : E_ d mJ11_bitCount 26 ls st h = E_ d mJ11_bitCount 27 ls (.int (nI 4) :: st) h := e_iconst dJ11_bitCount_26 kiconst_4 rfl
theorem wJ11_bitCount_27 : E_ d mJ11_bitCount 27 ls (.int y :: .int x :: st) h = E_ d mJ11_bitCount 28 ls (.int ((x.toUInt32 >>> (y.toUInt32 &&& Int32.toUInt32 31)).toInt32) :: st) h := e_go dJ11_bitCount_27 rfl rfl
theorem wJ11_bitCount_28 : E_ d mJ11_bitCount 28 ls (.int y :: .int x :: st) h = E_ d mJ11_bitCount 29 ls (.int (x + y) :: st) h := e_go dJ11_bitCount_28 rfl rfl
theorem wJ11_bitCount_29 : E_ d mJ11_bitCount 29 ls st h = E_ d mJ11_bitCount 32 ls (.int (nI 252645135) :: st) h := e_go dJ11_bitCount_29 rfl rfl
theorem wJ11_bitCount_32 : E_ d mJ11_bitCount 32 ls (.int y :: .int x :: st) h = E_ d mJ11_bitCount 33 ls (.int (x &&& y) :: st) h := e_go dJ11_bitCount_32 rfl rfl
theorem wJ11_bitCount_33 : E_ d mJ11_bitCount 33 [s0] (.int x :: st) h = E_ d mJ11_bitCount 34 [.val (.int x)] st h := e_go dJ11_bitCount_33 rfl rfl
theorem wJ11_bitCount_34 : E_ d mJ11_bitCount 34 [.val (.int x)] st h = E_ d mJ11_bitCount 35 [.val (.int x)] (.int x :: st) h := e_go dJ11_bitCount_34 rfl rfl
theorem wJ11_bitCount_35 : E_ d mJ11_bitCount 35 [.val (.int x)] st h = E_ d mJ11_bitCount 36 [.val (.int x)] (.int x :: st) h := e_go dJ11_bitCount_35 rfl rfl
theorem wJ11_bitCount_36 : E_ d mJ11_bitCount 36 ls st h = E_ d mJ11_bitCount 38 ls (.int (nI 8) :: st) h := e_bipush dJ11_bitCount_36 kbipush_8 rfl
theorem wJ11_bitCount_38 : E_ d mJ11_bitCount 38 ls (.int y :: .int x :: st) h = E_ d mJ11_bitCount 39 ls (.int ((x.toUInt32 >>> (y.toUInt32 &&& Int32.toUInt32 31)).toInt32) :: st) h := e_go dJ11_bitCount_38 rfl rfl
theorem wJ11_bitCount_39 : E_ d mJ11_bitCount 39 ls (.int y :: .int x :: st) h = E_ d mJ11_bitCount 40 ls (.int (x + y) :: st) h := e_go dJ11_bitCount_39 rfl rfl
theorem wJ11_bitCount_40 : E_ d mJ11_bitCount 40 [s0] (.int x :: st) h = E_ d mJ11_bitCount 41 [.val (.int x)] st h := e_go dJ11_bitCount_40 rfl rfl
theorem wJ11_bitCount_41 : E_ d mJ11_bitCount 41 [.val (.int x)] st h = E_ d mJ11_bitCount 42 [.val (.int x)] (.int x :: st) h := e_go dJ11_bitCount_41 rfl rfl
theorem wJ11_bitCount_42 : E_ d mJ11_bitCount 42 [.val (.int x)] st h = E_ d mJ11_bitCount 43 [.val (.int x)] (.int x :: st) h := e_go dJ11_bitCount_42 rfl rfl
theorem wJ11_bitCount_43 : E_ d mJ11_bitCount 43 ls st h = E_ d mJ11_bitCount 45 ls (.int (nI 16) :: st) h := e_bipush dJ11_bitCount_43 kbipush_16 rfl
theorem wJ11_bitCount_45 : E_ d mJ11_bitCount 45 ls (.int y :: .int x :: st) h = E_ d mJ11_bitCount 46 ls (.int ((x.toUInt32 >>> (y.toUInt32 &&& Int32.toUInt32 31)).toInt32) :: st) h := e_go dJ11_bitCount_45 rfl rfl
theorem wJ11_bitCount_46 : E_ d mJ11_bitCount 46 ls (.int y :: .int x :: st) h = E_ d mJ11_bitCount 47 ls (.int (x + y) :: st) h := e_go dJ11_bitCount_46 rfl rfl
theorem wJ11_bitCount_47 : E_ d mJ11_bitCount 47 [s0] (.int x :: st) h = E_ d mJ11_bitCount 48 [.val (.int x)] st h := e_go dJ11_bitCount_47 rfl rfl
theorem wJ11_bitCount_48 : E_ d mJ11_bitCount 48 [.val (.int x)] st h = E_ d mJ11_bitCount 49 [.val (.int x)] (.int x :: st) h := e_go dJ11_bitCount_48 rfl rfl
theorem wJ11_bitCount_49 : E_ d mJ11_bitCount 49 ls st h = E_ d mJ11_bitCount 51 ls (.int (nI 63) :: st) h := e_bipush dJ11_bitCount_49 kbipush_63 rfl
theorem wJ11_bitCount_51 : E_ d mJ11_bitCount 51 ls (.int y :: .int x :: st) h = E_ d mJ11_bitCount 52 ls (.int (x &&& y) :: st) h := e_go dJ11_bitCount_51 rfl rfl
theorem wJ11_bitCount_52 : E_ d mJ11_bitCount 52 ls [.int x] h = some (some (.int x), h) := e_rt dJ11_bitCount_52 rfl rfl
/-! java/util/ArrayList.<init> -/
theorem wJ2_init_0 : E_ d mJ2_init 0 [.val (.ref a), s1] st h = E_ d mJ2_init 1 [.val (.ref a), s1] (.ref a :: st) h := e_go dJ2_init_0 rfl rfl
theorem wJ2_init_1 : E_ (d + 1) mJ2_init 1 ls [.ref a] h = (C_ d mJ1_init [.ref a] h).bind fun r => E_ (d + 1) mJ2_init 4 ls (xpu r.1 []) r.2 := e_call dJ2_init_1 rfl rfl
theorem wJ2_init_4 : E_ d mJ2_init 4 [s0, .val (.int x)] st h = E_ d mJ2_init 5 [s0, .val (.int x)] (.int x :: st) h := e_go dJ2_init_4 rfl rfl
theorem wJ2_init_5 : E_ d mJ2_init 5 ls (.int x :: st) h = if 0 < x then E_ d mJ2_init 8 ls st h else E_ d mJ2_init 19 ls st h := e_zle dJ2_init_5 rfl rfl
theorem wJ2_init_8 : E_ d mJ2_init 8 [.val (.ref a), s1] st h = E_ d mJ2_init 9 [.val (.ref a), s1] (.ref a :: st) h := e_go dJ2_init_8 rfl rfl
theorem wJ2_init_9 : E_ d mJ2_init 9 [s0, .val (.int x)] st h = E_ d mJ2_init 10 [s0, .val (.int x)] (.int x :: st) h := e_go dJ2_init_9 rfl rfl
theorem wJ2_init_10 (h0 : 0 ≤ x.toInt) (h1 : x.toInt ≤ 65536) : E_ d mJ2_init 10 ls (.int x :: st) h = E_ d mJ2_init 13 ls (.ref (oX h) :: st) (pO h 45 x.toNatClampNeg) := e_newq dJ2_init_10 rfl rfl h0 h1
theorem wJ2_init_13 (ht : oT h a = 4) : E_ d mJ2_init 13 ls (.ref b :: .ref a :: st) h = E_ d mJ2_init 16 ls st (pR h a (va_up (oR h a) 1 (some b))) := e_putR dJ2_init_13 rfl rfl ht
theorem wJ2_init_16 : E_ d mJ2_init 16 ls st h = E_ d mJ2_init 60 ls st h := e_gt dJ2_init_16 rfl
theorem wJ2_init_19 : E_ d mJ2_init 19 [s0, .val (.int x)] st h = E_ d mJ2_init 20 [s0, .val (.int x)] (.int x :: st) h := e_go dJ2_init_19 rfl rfl
theorem wJ2_init_20 : E_ d mJ2_init 20 ls (.int x :: st) h = if x = 0 then E_ d mJ2_init 23 ls st h else E_ d mJ2_init 33 ls st h := e_zne dJ2_init_20 rfl rfl
theorem wJ2_init_23 : E_ d mJ2_init 23 [.val (.ref a), s1] st h = E_ d mJ2_init 24 [.val (.ref a), s1] (.ref a :: st) h := e_go dJ2_init_23 rfl rfl
theorem wJ2_init_27 (ht : oT h a = 4) : E_ d mJ2_init 27 ls (.ref b :: .ref a :: st) h = E_ d mJ2_init 30 ls st (pR h a (va_up (oR h a) 1 (some b))) := e_putR dJ2_init_27 rfl rfl ht
theorem wJ2_init_30 : E_ d mJ2_init 30 ls st h = E_ d mJ2_init 60 ls st h := e_gt dJ2_init_30 rfl
theorem wJ2_init_36 : E_ d mJ2_init 36 ls (.ref a :: st) h = E_ d mJ2_init 37 ls (.ref a :: .ref a :: st) h := e_go dJ2_init_36 rfl rfl
theorem wJ2_init_40 : E_ d mJ2_init 40 ls (.ref a :: st) h = E_ d mJ2_init 41 ls (.ref a :: .ref a :: st) h := e_go dJ2_init_40 rfl rfl
theorem wJ2_init_60 : E_ d mJ2_init 60 ls [] h = some (none, h) := e_rt dJ2_init_60 rfl rfl
/-! java/util/ArrayList.size -/
theorem wJ2_size_0 : E_ d mJ2_size 0 [.val (.ref a)] st h = E_ d mJ2_size 1 [.val (.ref a)] (.ref a :: st) h := e_go dJ2_size_0 rfl rfl
theorem wJ2_size_1 (ht : oT h a = 4) : E_ d mJ2_size 1 ls (.ref a :: st) h = E_ d mJ2_size 4 ls (.int (oI h a 2) :: st) h := e_getI dJ2_size_1 rfl rfl ht
theorem wJ2_size_4 : E_ d mJ2_size 4 ls [.int x] h = some (some (.int x), h) := e_rt dJ2_size_4 rfl rfl
/-! java/util/ArrayList.add -/
theorem wJ2_add_0 : E_ d mJ2_add 0 [.val (.ref a), s1] st h = E_ d mJ2_add 1 [.val (.ref a), s1] (.ref a :: st) h := e_go dJ2_add_0 rfl rfl
theorem wJ2_add_1 : E_ d mJ2_add 1 ls (.ref a :: st) h = E_ d mJ2_add 2 ls (.ref a :: .ref a :: st) h := e_go dJ2_add_1 rfl rfl
theorem wJ2_add_2 (ht : oT h a = 4) : E_ d mJ2_add 2 ls (.ref a :: st) h = E_ d mJ2_add 5 ls (.int (oI h a 0) :: st) h := e_getI dJ2_add_2 rfl rfl ht
theorem wJ2_add_5 : E_ d mJ2_add 5 ls st h = E_ d mJ2_add 6 ls (.int (nI 1) :: st) h := e_iconst dJ2_add_5 kiconst_1 rfl
theorem wJ2_add_6 : E_ d mJ2_add 6 ls (.int y :: .int x :: st) h = E_ d mJ2_add 7 ls (.int (x + y) :: st) h := e_go dJ2_add_6 rfl rfl
theorem wJ2_add_7 (ht : oT h a = 4) : E_ d mJ2_add 7 ls (.int x :: .ref a :: st) h = E_ d mJ2_add 10 ls st (pI h a (va_up (oI h a) 0 x)) := e_putI dJ2_add_7 rfl rfl ht
theorem wJ2_add_10 : E_ d mJ2_add 10 [.val (.ref a), s1] st h = E_ d mJ2_add 11 [.val (.ref a), s1] (.ref a :: st) h := e_go dJ2_add_10 rfl rfl
theorem wJ2_add_11 : E_ d mJ2_add 11 [s0, .val (.ref a)] st h = E_ d mJ2_add 12 [s0, .val (.ref a)] (.ref a :: st) h := e_go dJ2_add_11 rfl rfl
theorem wJ2_add_12 : E_ d mJ2_add 12 [.val (.ref a), s1] st h = E_ d mJ2_add 13 [.val (.ref a), s1] (.ref a :: st) h := e_go dJ2_add_12 rfl rfl
theorem wJ2_add_13 (ht : oT h a = 4) : E_ d mJ2_add 13 ls (.ref a :: st) h = E_ d mJ2_add 16 ls (va_rf (oR h a 1) :: st) h := e_getR dJ2_add_13 rfl rfl ht
theorem wJ2_add_16 : E_ d mJ2_add 16 [.val (.ref a), s1] st h = E_ d mJ2_add 17 [.val (.ref a), s1] (.ref a :: st) h := e_go dJ2_add_16 rfl rfl
theorem wJ2_add_17 (ht : oT h a = 4) : E_ d mJ2_add 17 ls (.ref a :: st) h = E_ d mJ2_add 20 ls (.int (oI h a 2) :: st) h := e_getI dJ2_add_17 rfl rfl ht
theorem wJ2_add_20 (ht : oT h a = 4) : E_ (d + 1) mJ2_add 20 ls [.int x1, .ref r2, .ref r1, .ref a] h = (C_ d mJ2_add_2 [.ref a, .ref r1, .ref r2, .int x1] h).bind fun r => E_ (d + 1) mJ2_add 23 ls (xpu r.1 []) r.2 := e_vir dJ2_add_20 rfl rfl rfl rfl rfl rfl (Nat.le_of_ble_eq_true rfl) (Nat.le_of_ble_eq_true rfl) ht
theorem wJ2_add_23 : E_ d mJ2_add 23 ls st h = E_ d mJ2_add 24 ls (.int (nI 1) :: st) h := e_iconst dJ2_add_23 kiconst_1 rfl
theorem wJ2_add_24 (hx : x = 0 ∨ x = 1) : E_ d mJ2_add 24 ls [.int x] h = some (some (.int x), h) := e_rtZ dJ2_add_24 rfl hx
/-! java/util/ArrayList.add -/
theorem wJ2_add_2_0 : E_ d mJ2_add_2 0 [s0, s1, s2, .val (.int x)] st h = E_ d mJ2_add_2 1 [s0, s1, s2, .val (.int x)] (.int x :: st) h := e_go dJ2_add_2_0 rfl rfl
theorem wJ2_add_2_1 : E_ d mJ2_add_2 1 [s0, s1, .val (.ref a), s3] st h = E_ d mJ2_add_2 2 [s0, s1, .val (.ref a), s3] (.ref a :: st) h := e_go dJ2_add_2_1 rfl rfl
theorem wJ2_add_2_2 (ht : 39 ≤ oT h a ∧ oT h a ≤ 48) : E_ d mJ2_add_2 2 ls (.ref a :: st) h = E_ d mJ2_add_2 3 ls (.int (nI (oN h a)) :: st) h := e_len dJ2_add_2_2 rfl ht
theorem wJ2_add_2_3 : E_ d mJ2_add_2 3 ls (.int y :: .int x :: st) h = if x = y then E_ d mJ2_add_2 6 ls st h else E_ d mJ2_add_2 11 ls st h := e_ine dJ2_add_2_3 rfl rfl
theorem wJ2_add_2_6 : E_ d mJ2_add_2 6 [.val (.ref a), s1, s2, s3] st h = E_ d mJ2_add_2 7 [.val (.ref a), s1, s2, s3] (.ref a :: st) h := e_go dJ2_add_2_6 rfl rfl
theorem wJ2_add_2_7 (ht : oT h a = 4) : E_ (d + 1) mJ2_add_2 7 ls [.ref a] h = (C_ d mJ2_grow [.ref a] h).bind fun r => E_ (d + 1) mJ2_add_2 10 ls (xpu r.1 []) r.2 := e_vir dJ2_add_2_7 rfl rfl rfl rfl rfl rfl (Nat.le_of_ble_eq_true rfl) (Nat.le_of_ble_eq_true rfl) ht
theorem wJ2_add_2_10 : E_ d mJ2_add_2 10 [s0, s1, s2, s3] (.ref a :: st) h = E_ d mJ2_add_2 11 [s0, xk s1, .val (.ref a), s3] st h := e_go dJ2_add_2_10 rfl rfl
theorem wJ2_add_2_11 : E_ d mJ2_add_2 11 [s0, s1, .val (.ref a), s3] st h = E_ d mJ2_add_2 12 [s0, s1, .val (.ref a), s3] (.ref a :: st) h := e_go dJ2_add_2_11 rfl rfl
theorem wJ2_add_2_12 : E_ d mJ2_add_2 12 [s0, s1, s2, .val (.int x)] st h = E_ d mJ2_add_2 13 [s0, s1, s2, .val (.int x)] (.int x :: st) h := e_go dJ2_add_2_12 rfl rfl
theorem wJ2_add_2_13 : E_ d mJ2_add_2 13 [s0, .val (.ref a), s2, s3] st h = E_ d mJ2_add_2 14 [s0, .val (.ref a), s2, s3] (.ref a :: st) h := e_go dJ2_add_2_13 rfl rfl
theorem wJ2_add_2_14 (ht : xel (oT h a) (oT h b) = true) (hi : xix x (oN h a) = true) : E_ d mJ2_add_2 14 ls (.ref b :: .int x :: .ref a :: st) h = E_ d mJ2_add_2 15 ls st (pR h a (va_up (oR h a) x.toNatClampNeg (some b))) := e_aast dJ2_add_2_14 rfl ht hi
theorem wJ2_add_2_14n (ht : 45 ≤ oT h a ∧ oT h a ≤ 48) (hi : xix x (oN h a) = true) : E_ d mJ2_add_2 14 ls (.null :: .int x :: .ref a :: st) h = E_ d mJ2_add_2 15 ls st (pR h a (va_up (oR h a) x.toNatClampNeg none)) := e_aastN dJ2_add_2_14 rfl ht hi
theorem wJ2_add_2_15 : E_ d mJ2_add_2 15 [.val (.ref a), s1, s2, s3] st h = E_ d mJ2_add_2 16 [.val (.ref a), s1, s2, s3] (.ref a :: st) h := e_go dJ2_add_2_15 rfl rfl
theorem wJ2_add_2_16 : E_ d mJ2_add_2 16 [s0, s1, s2, .val (.int x)] st h = E_ d mJ2_add_2 17 [s0, s1, s2, .val (.int x)] (.int x :: st) h := e_go dJ2_add_2_16 rfl rfl
theorem wJ2_add_2_17 : E_ d mJ2_add_2 17 ls st h = E_ d mJ2_add_2 18 ls (.int (nI 1) :: st) h := e_iconst dJ2_add_2_17 kiconst_1 rfl
theorem wJ2_add_2_18 : E_ d mJ2_add_2 18 ls (.int y :: .int x :: st) h = E_ d mJ2_add_2 19 ls (.int (x + y) :: st) h := e_go dJ2_add_2_18 rfl rfl
theorem wJ2_add_2_19 (ht : oT h a = 4) : E_ d mJ2_add_2 19 ls (.int x :: .ref a :: st) h = E_ d mJ2_add_2 22 ls st (pI h a (va_up (oI h a) 2 x)) := e_putI dJ2_add_2_19 rfl rfl ht
theorem wJ2_add_2_22 : E_ d mJ2_add_2 22 ls [] h = some (none, h) := e_rt dJ2_add_2_22 rfl rfl
/-! java/util/ArrayList.grow -/
theorem wJ2_grow_0 : E_ d mJ2_grow 0 [.val (.ref a)] st h = E_ d mJ2_grow 1 [.val (.ref a)] (.ref a :: st) h := e_go dJ2_grow_0 rfl rfl
theorem wJ2_grow_1 : E_ d mJ2_grow 1 [.val (.ref a)] st h = E_ d mJ2_grow 2 [.val (.ref a)] (.ref a :: st) h := e_go dJ2_grow_1 rfl rfl
theorem wJ2_grow_2 (ht : oT h a = 4) : E_ d mJ2_grow 2 ls (.ref a :: st) h = E_ d mJ2_grow 5 ls (.int (oI h a 2) :: st) h := e_getI dJ2_grow_2 rfl rfl ht
theorem wJ2_grow_5 : E_ d mJ2_grow 5 ls st h = E_ d mJ2_grow 6 ls (.int (nI 1) :: st) h := e_iconst dJ2_grow_5 kiconst_1 rfl
theorem wJ2_grow_6 : E_ d mJ2_grow 6 ls (.int y :: .int x :: st) h = E_ d mJ2_grow 7 ls (.int (x + y) :: st) h := e_go dJ2_grow_6 rfl rfl
theorem wJ2_grow_7 (ht : oT h a = 4) : E_ (d + 1) mJ2_grow 7 ls [.int x1, .ref a] h = (C_ d mJ2_grow_2 [.ref a, .int x1] h).bind fun r => E_ (d + 1) mJ2_grow 10 ls (xpu r.1 []) r.2 := e_vir dJ2_grow_7 rfl rfl rfl rfl rfl rfl (Nat.le_of_ble_eq_true rfl) (Nat.le_of_ble_eq_true rfl) ht
theorem wJ2_grow_10 : E_ d mJ2_grow 10 ls [.ref a] h = some (some (.ref a), h) := e_rt dJ2_grow_10 rfl rfl
/-! java/util/ArrayList.grow -/
theorem wJ2_grow_2_0 : E_ d mJ2_grow_2 0 [.val (.ref a), s1, s2, s3] st h = E_ d mJ2_grow_2 1 [.val (.ref a), s1, s2, s3] (.ref a :: st) h := e_go dJ2_grow_2_0 rfl rfl
theorem wJ2_grow_2_1 (ht : oT h a = 4) : E_ d mJ2_grow_2 1 ls (.ref a :: st) h = E_ d mJ2_grow_2 4 ls (va_rf (oR h a 1) :: st) h := e_getR dJ2_grow_2_1 rfl rfl ht
theorem wJ2_grow_2_4 (ht : 39 ≤ oT h a ∧ oT h a ≤ 48) : E_ d mJ2_grow_2 4 ls (.ref a :: st) h = E_ d mJ2_grow_2 5 ls (.int (nI (oN h a)) :: st) h := e_len dJ2_grow_2_4 rfl ht
theorem wJ2_grow_2_5 : E_ d mJ2_grow_2 5 [s0, s1, s2, s3] (.int x :: st) h = E_ d mJ2_grow_2 6 [s0, xk s1, .val (.int x), s3] st h := e_go dJ2_grow_2_5 rfl rfl
theorem wJ2_grow_2_6 : E_ d mJ2_grow_2 6 [s0, s1, .val (.int x), s3] st h = E_ d mJ2_grow_2 7 [s0, s1, .val (.int x), s3] (.int x :: st) h := e_go dJ2_grow_2_6 rfl rfl
theorem wJ2_grow_2_7 : E_ d mJ2_grow_2 7 ls (.int x :: st) h = if 0 < x then E_ d mJ2_grow_2 20 ls st h else E_ d mJ2_grow_2 10 ls st h := e_zgt dJ2_grow_2_7 rfl rfl
theorem wJ2_grow_2_10 : E_ d mJ2_grow_2 10 [.val (.ref a), s1, s2, s3] st h = E_ d mJ2_grow_2 11 [.val (.ref a), s1, s2, s3] (.ref a :: st) h := e_go dJ2_grow_2_10 rfl rfl
theorem wJ2_grow_2_11 (ht : oT h a = 4) : E_ d mJ2_grow_2 11 ls (.ref a :: st) h = E_ d mJ2_grow_2 14 ls (va_rf (oR h a 1) :: st) h := e_getR dJ2_grow_2_11 rfl rfl ht
theorem wJ2_grow_2_20 : E_ d mJ2_grow_2 20 [s0, s1, .val (.int x), s3] st h = E_ d mJ2_grow_2 21 [s0, s1, .val (.int x), s3] (.int x :: st) h := e_go dJ2_grow_2_20 rfl rfl
theorem wJ2_grow_2_21 : E_ d mJ2_grow_2 21 [s0, .val (.int x), s2, s3] st h = E_ d mJ2_grow_2 22 [s0, .val (.int x), s2, s3] (.int x :: st) h := e_go dJ2_grow_2_21 rfl rfl
theorem wJ2_grow_2_22 : E_ d mJ2_grow_2 22 [s0, s1, .val (.int x), s3] st h = E_ d mJ2_grow_2 23 [s0, s1, .val (.int x), s3] (.int x :: st) h := e_go dJ2_grow_2_22 rfl rfl
theorem wJ2_grow_2_23 : E_ d mJ2_grow_2 23 ls (.int y :: .int x :: st) h = E_ d mJ2_grow_2 24 ls (.int (x - y) :: st) h := e_go dJ2_grow_2_23 rfl rfl
theorem wJ2_grow_2_24 : E_ d mJ2_grow_2 24 [s0, s1, .val (.int x), s3] st h = E_ d mJ2_grow_2 25 [s0, s1, .val (.int x), s3] (.int x :: st) h := e_go dJ2_grow_2_24 rfl rfl
theorem wJ2_grow_2_25 : E_ d mJ2_grow_2 25 ls st h = E_ d mJ2_grow_2 26 ls (.int (nI 1) :: st) h := e_iconst dJ2_grow_2_25 kiconst_1 rfl
theorem wJ2_grow_2_26 : E_ d mJ2_grow_2 26 ls (.int y :: .int x :: st) h = E_ d mJ2_grow_2 27 ls (.int (x >>> (y &&& 31)) :: st) h := e_go dJ2_grow_2_26 rfl rfl
theorem wJ2_grow_2_27 : E_ (d + 1) mJ2_grow_2 27 ls [.int x3, .int x2, .int x1] h = (C_ d mJ7_newLength [.int x1, .int x2, .int x3] h).bind fun r => E_ (d + 1) mJ2_grow_2 30 ls (xpu r.1 []) r.2 := e_call dJ2_grow_2_27 rfl rfl
theorem wJ2_grow_2_30 : E_ d mJ2_grow_2 30 [s0, s1, s2, s3] (.int x :: st) h = E_ d mJ2_grow_2 31 [s0, s1, xk s2, .val (.int x)] st h := e_go dJ2_grow_2_30 rfl rfl
theorem wJ2_grow_2_31 : E_ d mJ2_grow_2 31 [.val (.ref a), s1, s2, s3] st h = E_ d mJ2_grow_2 32 [.val (.ref a), s1, s2, s3] (.ref a :: st) h := e_go dJ2_grow_2_31 rfl rfl
theorem wJ2_grow_2_32 : E_ d mJ2_grow_2 32 [.val (.ref a), s1, s2, s3] st h = E_ d mJ2_grow_2 33 [.val (.ref a), s1, s2, s3] (.ref a :: st) h := e_go dJ2_grow_2_32 rfl rfl
theorem wJ2_grow_2_33 (ht : oT h a = 4) : E_ d mJ2_grow_2 33 ls (.ref a :: st) h = E_ d mJ2_grow_2 36 ls (va_rf (oR h a 1) :: st) h := e_getR dJ2_grow_2_33 rfl rfl ht
theorem wJ2_grow_2_36 : E_ d mJ2_grow_2 36 [s0, s1, s2, .val (.int x)] st h = E_ d mJ2_grow_2 37 [s0, s1, s2, .val (.int x)] (.int x :: st) h := e_go dJ2_grow_2_36 rfl rfl
theorem wJ2_grow_2_37 : E_ d mJ2_grow_2 37 ls [.int x1, .ref r1, .ref r2] h = (xP 2 [.ref r1, .int x1] h).bind fun r => E_ d mJ2_grow_2 40 ls (xpu r.1 [.ref r2]) r.2 := e_staP dJ2_grow_2_37 rfl (Nat.le_of_ble_eq_true rfl) rfl rfl rfl (Nat.le_of_ble_eq_true rfl)
theorem wJ2_grow_2_40 : E_ d mJ2_grow_2 40 ls (.ref a :: .ref b :: st) h = E_ d mJ2_grow_2 41 ls (.ref a :: .ref b :: .ref a :: st) h := e_go dJ2_grow_2_40 rfl rfl
theorem wJ2_grow_2_41 (ht : oT h a = 4) : E_ d mJ2_grow_2 41 ls (.ref b :: .ref a :: st) h = E_ d mJ2_grow_2 44 ls st (pR h a (va_up (oR h a) 1 (some b))) := e_putR dJ2_grow_2_41 rfl rfl ht
theorem wJ2_grow_2_44 : E_ d mJ2_grow_2 44 ls [.ref a] h = some (some (.ref a), h) := e_rt dJ2_grow_2_44 rfl rfl
theorem wJ2_grow_2_45 : E_ d mJ2_grow_2 45 [.val (.ref a), s1, s2, s3] st h = E_ d mJ2_grow_2 46 [.val (.ref a), s1, s2, s3] (.ref a :: st) h := e_go dJ2_grow_2_45 rfl rfl
theorem wJ2_grow_2_46 : E_ d mJ2_grow_2 46 ls st h = E_ d mJ2_grow_2 48 ls (.int (nI 10) :: st) h := e_bipush dJ2_grow_2_46 kbipush_10 rfl
theorem wJ2_grow_2_48 : E_ d mJ2_grow_2 48 [s0, .val (.int x), s2, s3] st h = E_ d mJ2_grow_2 49 [s0, .val (.int x), s2, s3] (.int x :: st) h := e_go dJ2_grow_2_48 rfl rfl
theorem wJ2_grow_2_49 : E_ d mJ2_grow_2 49 ls [.int x2, .int x1, .ref r1] h = (xP 6 [.int x1, .int x2] h).bind fun r => E_ d mJ2_grow_2 52 ls (xpu r.1 [.ref r1]) r.2 := e_staP dJ2_grow_2_49 rfl (Nat.le_of_ble_eq_true rfl) rfl rfl rfl (Nat.le_of_ble_eq_true rfl)
theorem wJ2_grow_2_52 (h0 : 0 ≤ x.toInt) (h1 : x.toInt ≤ 65536) : E_ d mJ2_grow_2 52 ls (.int x :: st) h = E_ d mJ2_grow_2 55 ls (.ref (oX h) :: st) (pO h 45 x.toNatClampNeg) := e_newq dJ2_grow_2_52 rfl rfl h0 h1
theorem wJ2_grow_2_55 : E_ d mJ2_grow_2 55 ls (.ref a :: .ref b :: st) h = E_ d mJ2_grow_2 56 ls (.ref a :: .ref b :: .ref a :: st) h := e_go dJ2_grow_2_55 rfl rfl
theorem wJ2_grow_2_56 (ht : oT h a = 4) : E_ d mJ2_grow_2 56 ls (.ref b :: .ref a :: st) h = E_ d mJ2_grow_2 59 ls st (pR h a (va_up (oR h a) 1 (some b))) := e_putR dJ2_grow_2_56 rfl rfl ht
theorem wJ2_grow_2_59 : E_ d mJ2_grow_2 59 ls [.ref a] h = some (some (.ref a), h) := e_rt dJ2_grow_2_59 rfl rfl
/-! java/util/ArrayList.get -/
theorem wJ2_get_0 : E_ d mJ2_get 0 [s0, .val (.int x)] st h = E_ d mJ2_get 1 [s0, .val (.int x)] (.int x :: st) h := e_go dJ2_get_0 rfl rfl
theorem wJ2_get_1 : E_ d mJ2_get 1 [.val (.ref a), s1] st h = E_ d mJ2_get 2 [.val (.ref a), s1] (.ref a :: st) h := e_go dJ2_get_1 rfl rfl
theorem wJ2_get_2 (ht : oT h a = 4) : E_ d mJ2_get 2 ls (.ref a :: st) h = E_ d mJ2_get 5 ls (.int (oI h a 2) :: st) h := e_getI dJ2_get_2 rfl rfl ht
theorem wJ2_get_5 : E_ (d + 1) mJ2_get 5 ls [.int x2, .int x1] h = (C_ d mJ10_checkIndex [.int x1, .int x2] h).bind fun r => E_ (d + 1) mJ2_get 8 ls (xpu r.1 []) r.2 := e_call dJ2_get_5 rfl rfl
theorem wJ2_get_8 : E_ d mJ2_get 8 ls (.int x :: st) h = E_ d mJ2_get 9 ls st h := e_go dJ2_get_8 rfl rfl
theorem wJ2_get_9 : E_ d mJ2_get 9 [.val (.ref a), s1] st h = E_ d mJ2_get 10 [.val (.ref a), s1] (.ref a :: st) h := e_go dJ2_get_9 rfl rfl
theorem wJ2_get_10 : E_ d mJ2_get 10 [s0, .val (.int x)] st h = E_ d mJ2_get 11 [s0, .val (.int x)] (.int x :: st) h := e_go dJ2_get_10 rfl rfl
theorem wJ2_get_11 (ht : oT h a = 4) : E_ (d + 1) mJ2_get 11 ls [.int x1, .ref a] h = (C_ d mJ2_elementData [.ref a, .int x1] h).bind fun r => E_ (d + 1) mJ2_get 14 ls (xpu r.1 []) r.2 := e_vir dJ2_get_11 rfl rfl rfl rfl rfl rfl (Nat.le_of_ble_eq_true rfl) (Nat.le_of_ble_eq_true rfl) ht
theorem wJ2_get_14 : E_ d mJ2_get 14 ls [.ref a] h = some (some (.ref a), h) := e_rt dJ2_get_14 rfl rfl
/-! java/util/ArrayList.elementData -/
theorem wJ2_elementData_0 : E_ d mJ2_elementData 0 [.val (.ref a), s1] st h = E_ d mJ2_elementData 1 [.val (.ref a), s1] (.ref a :: st) h := e_go dJ2_elementData_0 rfl rfl
theorem wJ2_elementData_1 (ht : oT h a = 4) : E_ d mJ2_elementData 1 ls (.ref a :: st) h = E_ d mJ2_elementData 4 ls (va_rf (oR h a 1) :: st) h := e_getR dJ2_elementData_1 rfl rfl ht
theorem wJ2_elementData_4 : E_ d mJ2_elementData 4 [s0, .val (.int x)] st h = E_ d mJ2_elementData 5 [s0, .val (.int x)] (.int x :: st) h := e_go dJ2_elementData_4 rfl rfl
theorem wJ2_elementData_5 (ht : 45 ≤ oT h a ∧ oT h a ≤ 48) (hi : xix x (oN h a) = true) : E_ d mJ2_elementData 5 ls (.int x :: .ref a :: st) h = E_ d mJ2_elementData 6 ls (va_rf (oR h a x.toNatClampNeg) :: st) h := e_aald dJ2_elementData_5 rfl ht hi
theorem wJ2_elementData_6 : E_ d mJ2_elementData 6 ls [.ref a] h = some (some (.ref a), h) := e_rt dJ2_elementData_6 rfl rfl
/-! java/util/ArrayList.remove -/
theorem wJ2_remove_0 : E_ d mJ2_remove 0 [s0, .val (.int x), s2, s3] st h = E_ d mJ2_remove 1 [s0, .val (.int x), s2, s3] (.int x :: st) h := e_go dJ2_remove_0 rfl rfl
theorem wJ2_remove_1 : E_ d mJ2_remove 1 [.val (.ref a), s1, s2, s3] st h = E_ d mJ2_remove 2 [.val (.ref a), s1, s2, s3] (.ref a :: st) h := e_go dJ2_remove_1 rfl rfl
theorem wJ2_remove_2 (ht : oT h a = 4) : E_ d mJ2_remove 2 ls (.ref a :: st) h = E_ d mJ2_remove 5 ls (.int (oI h a 2) :: st) h := e_getI dJ2_remove_2 rfl rfl ht
theorem wJ2_remove_5 : E_ (d + 1) mJ2_remove 5 ls [.int x2, .int x1] h = (C_ d mJ10_checkIndex [.int x1, .int x2] h).bind fun r => E_ (d + 1) mJ2_remove 8 ls (xpu r.1 []) r.2 := e_call dJ2_remove_5 rfl rfl
theorem wJ2_remove_8 : E_ d mJ2_remove 8 ls (.int x :: st) h = E_ d mJ2_remove 9 ls st h := e_go dJ2_remove_8 rfl rfl
theorem wJ2_remove_9 : E_ d mJ2_remove 9 [.val (.ref a), s1, s2, s3] st h = E_ d mJ2_remove 10 [.val (.ref a), s1, s2, s3] (.ref a :: st) h := e_go dJ2_remove_9 rfl rfl
theorem wJ2_remove_10 (ht : oT h a = 4) : E_ d mJ2_remove 10 ls (.ref a :: st) h = E_ d mJ2_remove 13 ls (va_rf (oR h a 1) :: st) h := e_getR dJ2_remove_10 rfl rfl ht
theorem wJ2_remove_13 : E_ d mJ2_remove 13 [s0, s1, s2, s3] (.ref a :: st) h = E_ d mJ2_remove 14 [s0, xk s1, .val (.ref a), s3] st h := e_go dJ2_remove_13 rfl rfl
theorem wJ2_remove_14 : E_ d mJ2_remove 14 [s0, s1, .val (.ref a), s3] st h = E_ d mJ2_remove 15 [s0, s1, .val (.ref a), s3] (.ref a :: st) h := e_go dJ2_remove_14 rfl rfl
theorem wJ2_remove_15 : E_ d mJ2_remove 15 [s0, .val (.int x), s2, s3] st h = E_ d mJ2_remove 16 [s0, .val (.int x), s2, s3] (.int x :: st) h := e_go dJ2_remove_15 rfl rfl
theorem wJ2_remove_16 (ht : 45 ≤ oT h a ∧ oT h a ≤ 48) (hi : xix x (oN h a) = true) : E_ d mJ2_remove 16 ls (.int x :: .ref a :: st) h = E_ d mJ2_remove 17 ls (va_rf (oR h a x.toNatClampNeg) :: st) h := e_aald dJ2_remove_16 rfl ht hi
theorem wJ2_remove_17 : E_ d mJ2_remove 17 [s0, s1, s2, s3] (.ref a :: st) h = E_ d mJ2_remove 18 [s0, s1, xk s2, .val (.ref a)] st h := e_go dJ2_remove_17 rfl rfl
theorem wJ2_remove_18 : E_ d mJ2_remove 18 [.val (.ref a), s1, s2, s3] st h = E_ d mJ2_remove 19 [.val (.ref a), s1, s2, s3] (.ref a :: st) h := e_go dJ2_remove_18 rfl rfl
theorem wJ2_remove_19 : E_ d mJ2_remove 19 [s0, s1, .val (.ref a), s3] st h = E_ d mJ2_remove 20 [s0, s1, .val (.ref a), s3] (.ref a :: st) h := e_go dJ2_remove_19 rfl rfl
theorem wJ2_remove_20 : E_ d mJ2_remove 20 [s0, .val (.int x), s2, s3] st h = E_ d mJ2_remove 21 [s0, .val (.int x), s2, s3] (.int x :: st) h := e_go dJ2_remove_20 rfl rfl
theorem wJ2_remove_21 (ht : oT h a = 4) : E_ (d + 1) mJ2_remove 21 ls [.int x1, .ref r1, .ref a] h = (C_ d mJ2_fastRemove [.ref a, .ref r1, .int x1] h).bind fun r => E_ (d + 1) mJ2_remove 24 ls (xpu r.1 []) r.2 := e_vir dJ2_remove_21 rfl rfl rfl rfl rfl rfl (Nat.le_of_ble_eq_true rfl) (Nat.le_of_ble_eq_true rfl) ht
theorem wJ2_remove_24 : E_ d mJ2_remove 24 [s0, s1, s2, .val (.ref a)] st h = E_ d mJ2_remove 25 [s0, s1, s2, .val (.ref a)] (.ref a :: st) h := e_go dJ2_remove_24 rfl rfl
theorem wJ2_remove_25 : E_ d mJ2_remove 25 ls [.ref a] h = some (some (.ref a), h) := e_rt dJ2_remove_25 rfl rfl
/-! java/util/ArrayList.fastRemove -/
theorem wJ2_fastRemove_0 : E_ d mJ2_fastRemove 0 [.val (.ref a), s1, s2, s3] st h = E_ d mJ2_fastRemove 1 [.val (.ref a), s1, s2, s3] (.ref a :: st) h := e_go dJ2_fastRemove_0 rfl rfl
theorem wJ2_fastRemove_1 : E_ d mJ2_fastRemove 1 ls (.ref a :: st) h = E_ d mJ2_fastRemove 2 ls (.ref a :: .ref a :: st) h := e_go dJ2_fastRemove_1 rfl rfl
theorem wJ2_fastRemove_2 (ht : oT h a = 4) : E_ d mJ2_fastRemove 2 ls (.ref a :: st) h = E_ d mJ2_fastRemove 5 ls (.int (oI h a 0) :: st) h := e_getI dJ2_fastRemove_2 rfl rfl ht
theorem wJ2_fastRemove_5 : E_ d mJ2_fastRemove 5 ls st h = E_ d mJ2_fastRemove 6 ls (.int (nI 1) :: st) h := e_iconst dJ2_fastRemove_5 kiconst_1 rfl
theorem wJ2_fastRemove_6 : E_ d mJ2_fastRemove 6 ls (.int y :: .int x :: st) h = E_ d mJ2_fastRemove 7 ls (.int (x + y) :: st) h := e_go dJ2_fastRemove_6 rfl rfl
theorem wJ2_fastRemove_7 (ht : oT h a = 4) : E_ d mJ2_fastRemove 7 ls (.int x :: .ref a :: st) h = E_ d mJ2_fastRemove 10 ls st (pI h a (va_up (oI h a) 0 x)) := e_putI dJ2_fastRemove_7 rfl rfl ht
theorem wJ2_fastRemove_10 : E_ d mJ2_fastRemove 10 [.val (.ref a), s1, s2, s3] st h = E_ d mJ2_fastRemove 11 [.val (.ref a), s1, s2, s3] (.ref a :: st) h := e_go dJ2_fastRemove_10 rfl rfl
theorem wJ2_fastRemove_11 (ht : oT h a = 4) : E_ d mJ2_fastRemove 11 ls (.ref a :: st) h = E_ d mJ2_fastRemove 14 ls (.int (oI h a 2) :: st) h := e_getI dJ2_fastRemove_11 rfl rfl ht
theorem wJ2_fastRemove_14 : E_ d mJ2_fastRemove 14 ls st h = E_ d mJ2_fastRemove 15 ls (.int (nI 1) :: st) h := e_iconst dJ2_fastRemove_14 kiconst_1 rfl
theorem wJ2_fastRemove_15 : E_ d mJ2_fastRemove 15 ls (.int y :: .int x :: st) h = E_ d mJ2_fastRemove 16 ls (.int (x - y) :: st) h := e_go dJ2_fastRemove_15 rfl rfl
theorem wJ2_fastRemove_16 : E_ d mJ2_fastRemove 16 ls (.int x :: st) h = E_ d mJ2_fastRemove 17 ls (.int x :: .int x :: st) h := e_go dJ2_fastRemove_16 rfl rfl
theorem wJ2_fastRemove_17 : E_ d mJ2_fastRemove 17 [s0, s1, s2, s3] (.int x :: st) h = E_ d mJ2_fastRemove 18 [s0, s1, xk s2, .val (.int x)] st h := e_go dJ2_fastRemove_17 rfl rfl
theorem wJ2_fastRemove_18 : E_ d mJ2_fastRemove 18 [s0, s1, .val (.int x), s3] st h = E_ d mJ2_fastRemove 19 [s0, s1, .val (.int x), s3] (.int x :: st) h := e_go dJ2_fastRemove_18 rfl rfl
theorem wJ2_fastRemove_19 : E_ d mJ2_fastRemove 19 ls (.int y :: .int x :: st) h = if y < x then E_ d mJ2_fastRemove 22 ls st h else E_ d mJ2_fastRemove 34 ls st h := e_ile dJ2_fastRemove_19 rfl rfl
theorem wJ2_fastRemove_22 : E_ d mJ2_fastRemove 22 [s0, .val (.ref a), s2, s3] st h = E_ d mJ2_fastRemove 23 [s0, .val (.ref a), s2, s3] (.ref a :: st) h := e_go dJ2_fastRemove_22 rfl rfl
theorem wJ2_fastRemove_23 : E_ d mJ2_fastRemove 23 [s0, s1, .val (.int x), s3] st h = E_ d mJ2_fastRemove 24 [s0, s1, .val (.int x), s3] (.int x :: st) h := e_go dJ2_fastRemove_23 rfl rfl
theorem wJ2_fastRemove_24 : E_ d mJ2_fastRemove 24 ls st h = E_ d mJ2_fastRemove 25 ls (.int (nI 1) :: st) h := e_iconst dJ2_fastRemove_24 kiconst_1 rfl
theorem wJ2_fastRemove_25 : E_ d mJ2_fastRemove 25 ls (.int y :: .int x :: st) h = E_ d mJ2_fastRemove 26 ls (.int (x + y) :: st) h := e_go dJ2_fastRemove_25 rfl rfl
theorem wJ2_fastRemove_26 : E_ d mJ2_fastRemove 26 [s0, .val (.ref a), s2, s3] st h = E_ d mJ2_fastRemove 27 [s0, .val (.ref a), s2, s3] (.ref a :: st) h := e_go dJ2_fastRemove_26 rfl rfl
theorem wJ2_fastRemove_27 : E_ d mJ2_fastRemove 27 [s0, s1, .val (.int x), s3] st h = E_ d mJ2_fastRemove 28 [s0, s1, .val (.int x), s3] (.int x :: st) h := e_go dJ2_fastRemove_27 rfl rfl
theorem wJ2_fastRemove_28 : E_ d mJ2_fastRemove 28 [s0, s1, s2, .val (.int x)] st h = E_ d mJ2_fastRemove 29 [s0, s1, s2, .val (.int x)] (.int x :: st) h := e_go dJ2_fastRemove_28 rfl rfl
theorem wJ2_fastRemove_29 : E_ d mJ2_fastRemove 29 [s0, s1, .val (.int x), s3] st h = E_ d mJ2_fastRemove 30 [s0, s1, .val (.int x), s3] (.int x :: st) h := e_go dJ2_fastRemove_29 rfl rfl
theorem wJ2_fastRemove_30 : E_ d mJ2_fastRemove 30 ls (.int y :: .int x :: st) h = E_ d mJ2_fastRemove 31 ls (.int (x - y) :: st) h := e_go dJ2_fastRemove_30 rfl rfl
theorem wJ2_fastRemove_31 : E_ d mJ2_fastRemove 31 ls [.int x3, .int x2, .ref r2, .int x1, .ref r1] h = (xP 3 [.ref r1, .int x1, .ref r2, .int x2, .int x3] h).bind fun r => E_ d mJ2_fastRemove 34 ls (xpu r.1 []) r.2 := e_staP dJ2_fastRemove_31 rfl (Nat.le_of_ble_eq_true rfl) rfl rfl rfl (Nat.le_of_ble_eq_true rfl)
theorem wJ2_fastRemove_34 : E_ d mJ2_fastRemove 34 [s0, .val (.ref a), s2, s3] st h = E_ d mJ2_fastRemove 35 [s0, .val (.ref a), s2, s3] (.ref a :: st) h := e_go dJ2_fastRemove_34 rfl rfl
theorem wJ2_fastRemove_35 : E_ d mJ2_fastRemove 35 [.val (.ref a), s1, s2, s3] st h = E_ d mJ2_fastRemove 36 [.val (.ref a), s1, s2, s3] (.ref a :: st) h := e_go dJ2_fastRemove_35 rfl rfl
theorem wJ2_fastRemove_36 : E_ d mJ2_fastRemove 36 [s0, s1, s2, .val (.int x)] st h = E_ d mJ2_fastRemove 37 [s0, s1, s2, .val (.int x)] (.int x :: st) h := e_go dJ2_fastRemove_36 rfl rfl
theorem wJ2_fastRemove_37 : E_ d mJ2_fastRemove 37 ls (.int x :: .ref b :: st) h = E_ d mJ2_fastRemove 38 ls (.int x :: .ref b :: .int x :: st) h := e_go dJ2_fastRemove_37 rfl rfl
theorem wJ2_fastRemove_38 (ht : oT h a = 4) : E_ d mJ2_fastRemove 38 ls (.int x :: .ref a :: st) h = E_ d mJ2_fastRemove 41 ls st (pI h a (va_up (oI h a) 2 x)) := e_putI dJ2_fastRemove_38 rfl rfl ht
theorem wJ2_fastRemove_41 : E_ d mJ2_fastRemove 41 ls st h = E_ d mJ2_fastRemove 42 ls (.null :: st) h := e_go dJ2_fastRemove_41 rfl rfl
theorem wJ2_fastRemove_42 (ht : xel (oT h a) (oT h b) = true) (hi : xix x (oN h a) = true) : E_ d mJ2_fastRemove 42 ls (.ref b :: .int x :: .ref a :: st) h = E_ d mJ2_fastRemove 43 ls st (pR h a (va_up (oR h a) x.toNatClampNeg (some b))) := e_aast dJ2_fastRemove_42 rfl ht hi
theorem wJ2_fastRemove_42n (ht : 45 ≤ oT h a ∧ oT h a ≤ 48) (hi : xix x (oN h a) = true) : E_ d mJ2_fastRemove 42 ls (.null :: .int x :: .ref a :: st) h = E_ d mJ2_fastRemove 43 ls st (pR h a (va_up (oR h a) x.toNatClampNeg none)) := e_aastN dJ2_fastRemove_42 rfl ht hi
theorem wJ2_fastRemove_43 : E_ d mJ2_fastRemove 43 ls [] h = some (none, h) := e_rt dJ2_fastRemove_43 rfl rfl
/-! jdk/internal/util/Preconditions.checkIndex -/
theorem wJ5_checkIndex_0 : E_ d mJ5_checkIndex 0 [.val (.int x), s1, s2] st h = E_ d mJ5_checkIndex 1 [.val (.int x), s1, s2] (.int x :: st) h := e_go dJ5_checkIndex_0 rfl rfl
theorem wJ5_checkIndex_1 : E_ d mJ5_checkIndex 1 ls (.int x :: st) h = if x < 0 then E_ d mJ5_checkIndex 9 ls st h else E_ d mJ5_checkIndex 4 ls st h := e_zlt dJ5_checkIndex_1 rfl rfl
theorem wJ5_checkIndex_4 : E_ d mJ5_checkIndex 4 [.val (.int x), s1, s2] st h = E_ d mJ5_checkIndex 5 [.val (.int x), s1, s2] (.int x :: st) h := e_go dJ5_checkIndex_4 rfl rfl
theorem wJ5_checkIndex_5 : E_ d mJ5_checkIndex 5 [s0, .val (.int x), s2] st h = E_ d mJ5_checkIndex 6 [s0, .val (.int x), s2] (.int x :: st) h := e_go dJ5_checkIndex_5 rfl rfl
theorem wJ5_checkIndex_6 : E_ d mJ5_checkIndex 6 ls (.int y :: .int x :: st) h = if x < y then E_ d mJ5_checkIndex 16 ls st h else E_ d mJ5_checkIndex 9 ls st h := e_ilt dJ5_checkIndex_6 rfl rfl
theorem wJ5_checkIndex_9 : E_ d mJ5_checkIndex 9 [s0, s1, .val (.ref a)] st h = E_ d mJ5_checkIndex 10 [s0, s1, .val (.ref a)] (.ref a :: st) h := e_go dJ5_checkIndex_9 rfl rfl
theorem wJ5_checkIndex_9q : E_ d mJ5_checkIndex 9 [s0, s1, .val (va_rf q)] st h = E_ d mJ5_checkIndex 10 [s0, s1, .val (va_rf q)] (va_rf q :: st) h := by cases q <;> exact e_go dJ5_checkIndex_9 rfl rfl
theorem wJ5_checkIndex_9n : E_ d mJ5_checkIndex 9 [s0, s1, .val .null] st h = E_ d mJ5_checkIndex 10 [s0, s1, .val .null] (.null :: st) h := e_go dJ5_checkIndex_9 rfl rfl
theorem wJ5_checkIndex_10 : E_ d mJ5_checkIndex 10 [.val (.int x), s1, s2] st h = E_ d mJ5_checkIndex 11 [.val (.int x), s1, s2] (.int x :: st) h := e_go dJ5_checkIndex_10 rfl rfl
theorem wJ5_checkIndex_11 : E_ d mJ5_checkIndex 11 [s0, .val (.int x), s2] st h = E_ d mJ5_checkIndex 12 [s0, .val (.int x), s2] (.int x :: st) h := e_go dJ5_checkIndex_11 rfl rfl
theorem wJ5_checkIndex_16 : E_ d mJ5_checkIndex 16 [.val (.int x), s1, s2] st h = E_ d mJ5_checkIndex 17 [.val (.int x), s1, s2] (.int x :: st) h := e_go dJ5_checkIndex_16 rfl rfl
theorem wJ5_checkIndex_17 : E_ d mJ5_checkIndex 17 ls [.int x] h = some (some (.int x), h) := e_rt dJ5_checkIndex_17 rfl rfl
/-! jdk/internal/util/ArraysSupport.newLength -/
theorem wJ7_newLength_0 : E_ d mJ7_newLength 0 [.val (.int x), s1, s2, s3] st h = E_ d mJ7_newLength 1 [.val (.int x), s1, s2, s3] (.int x :: st) h := e_go dJ7_newLength_0 rfl rfl
theorem wJ7_newLength_1 : E_ d mJ7_newLength 1 [s0, .val (.int x), s2, s3] st h = E_ d mJ7_newLength 2 [s0, .val (.int x), s2, s3] (.int x :: st) h := e_go dJ7_newLength_1 rfl rfl
theorem wJ7_newLength_2 : E_ d mJ7_newLength 2 [s0, s1, .val (.int x), s3] st h = E_ d mJ7_newLength 3 [s0, s1, .val (.int x), s3] (.int x :: st) h := e_go dJ7_newLength_2 rfl rfl
theorem wJ7_newLength_3 : E_ d mJ7_newLength 3 ls [.int x2, .int x1, .int x3] h = (xP 6 [.int x1, .int x2] h).bind fun r => E_ d mJ7_newLength 6 ls (xpu r.1 [.int x3]) r.2 := e_staP dJ7_newLength_3 rfl (Nat.le_of_ble_eq_true rfl) rfl rfl rfl (Nat.le_of_ble_eq_true rfl)
theorem wJ7_newLength_6 : E_ d mJ7_newLength 6 ls (.int y :: .int x :: st) h = E_ d mJ7_newLength 7 ls (.int (x + y) :: st) h := e_go dJ7_newLength_6 rfl rfl
theorem wJ7_newLength_7 : E_ d mJ7_newLength 7 [s0, s1, s2, s3] (.int x :: st) h = E_ d mJ7_newLength 8 [s0, s1, xk s2, .val (.int x)] st h := e_go dJ7_newLength_7 rfl rfl
theorem wJ7_newLength_8 : E_ d mJ7_newLength 8 ls st h = E_ d mJ7_newLength 9 ls (.int (nI 0) :: st) h := e_iconst dJ7_newLength_8 kiconst_0 rfl
theorem wJ7_newLength_9 : E_ d mJ7_newLength 9 [s0, s1, s2, .val (.int x)] st h = E_ d mJ7_newLength 10 [s0, s1, s2, .val (.int x)] (.int x :: st) h := e_go dJ7_newLength_9 rfl rfl
theorem wJ7_newLength_10 : E_ d mJ7_newLength 10 ls (.int y :: .int x :: st) h = if x < y then E_ d mJ7_newLength 13 ls st h else E_ d mJ7_newLength 21 ls st h := e_ige dJ7_newLength_10 rfl rfl
theorem wJ7_newLength_13 : E_ d mJ7_newLength 13 [s0, s1, s2, .val (.int x)] st h = E_ d mJ7_newLength 14 [s0, s1, s2, .val (.int x)] (.int x :: st) h := e_go dJ7_newLength_13 rfl rfl
theorem wJ7_newLength_14 : E_ d mJ7_newLength 14 ls st h = E_ d mJ7_newLength 16 ls (.int (nI 2147483639) :: st) h := e_go dJ7_newLength_14 rfl rfl
theorem wJ7_newLength_16 : E_ d mJ7_newLength 16 ls (.int y :: .int x :: st) h = if y < x then E_ d mJ7_newLength 21 ls st h else E_ d mJ7_newLength 19 ls st h := e_igt dJ7_newLength_16 rfl rfl
theorem wJ7_newLength_19 : E_ d mJ7_newLength 19 [s0, s1, s2, .val (.int x)] st h = E_ d mJ7_newLength 20 [s0, s1, s2, .val (.int x)] (.int x :: st) h := e_go dJ7_newLength_19 rfl rfl
theorem wJ7_newLength_20 : E_ d mJ7_newLength 20 ls [.int x] h = some (some (.int x), h) := e_rt dJ7_newLength_20 rfl rfl
theorem wJ7_newLength_21 : E_ d mJ7_newLength 21 [.val (.int x), s1, s2, s3] st h = E_ d mJ7_newLength 22 [.val (.int x), s1, s2, s3] (.int x :: st) h := e_go dJ7_newLength_21 rfl rfl
theorem wJ7_newLength_22 : E_ d mJ7_newLength 22 [s0, .val (.int x), s2, s3] st h = E_ d mJ7_newLength 23 [s0, .val (.int x), s2, s3] (.int x :: st) h := e_go dJ7_newLength_22 rfl rfl
theorem wJ7_newLength_26 : E_ d mJ7_newLength 26 ls [.int x] h = some (some (.int x), h) := e_rt dJ7_newLength_26 rfl rfl
/-! FootOut$State.<init> -/
theorem wX1_init_0 : E_ d mX1_init 0 [.val (.ref a)] st h = E_ d mX1_init 1 [.val (.ref a)] (.ref a :: st) h := e_go dX1_init_0 rfl rfl
theorem wX1_init_1 : E_ d mX1_init 1 ls [.ref a] h = E_ d mX1_init 4 ls [] h := e_go dX1_init_1 rfl rfl
theorem wX1_init_4 : E_ d mX1_init 4 [.val (.ref a)] st h = E_ d mX1_init 5 [.val (.ref a)] (.ref a :: st) h := e_go dX1_init_4 rfl rfl
theorem wX1_init_5 : E_ d mX1_init 5 ls st h = E_ d mX1_init 8 ls (.ref (oX h) :: st) (pO h 3 8) := e_go dX1_init_5 rfl rfl
theorem wX1_init_8 : E_ d mX1_init 8 ls (.ref a :: st) h = E_ d mX1_init 9 ls (.ref a :: .ref a :: st) h := e_go dX1_init_8 rfl rfl
theorem wX1_init_9 : E_ (d + 1) mX1_init 9 ls [.ref a, .ref r1, .ref r2] h = (C_ d mX2_init [.ref a] h).bind fun r => E_ (d + 1) mX1_init 12 ls (xpu r.1 [.ref r1, .ref r2]) r.2 := e_call dX1_init_9 rfl rfl
theorem wX1_init_12 (ht : oT h a = 2) : E_ d mX1_init 12 ls (.ref b :: .ref a :: st) h = E_ d mX1_init 15 ls st (pR h a (va_up (oR h a) 0 (some b))) := e_putR dX1_init_12 rfl rfl ht
theorem wX1_init_15 : E_ d mX1_init 15 [.val (.ref a)] st h = E_ d mX1_init 16 [.val (.ref a)] (.ref a :: st) h := e_go dX1_init_15 rfl rfl
theorem wX1_init_16 : E_ d mX1_init 16 ls st h = E_ d mX1_init 19 ls (.ref (oX h) :: st) (pO h 4 3) := e_go dX1_init_16 rfl rfl
theorem wX1_init_19 : E_ d mX1_init 19 ls (.ref a :: st) h = E_ d mX1_init 20 ls (.ref a :: .ref a :: st) h := e_go dX1_init_19 rfl rfl
theorem wX1_init_20 : E_ d mX1_init 20 ls st h = E_ d mX1_init 21 ls (.int (nI 2) :: st) h := e_iconst dX1_init_20 kiconst_2 rfl
theorem wX1_init_21 : E_ (d + 1) mX1_init 21 ls [.int x1, .ref a, .ref r1, .ref r2] h = (C_ d mJ2_init [.ref a, .int x1] h).bind fun r => E_ (d + 1) mX1_init 24 ls (xpu r.1 [.ref r1, .ref r2]) r.2 := e_call dX1_init_21 rfl rfl
theorem wX1_init_24 (ht : oT h a = 2) : E_ d mX1_init 24 ls (.ref b :: .ref a :: st) h = E_ d mX1_init 27 ls st (pR h a (va_up (oR h a) 1 (some b))) := e_putR dX1_init_24 rfl rfl ht
theorem wX1_init_27 : E_ d mX1_init 27 [.val (.ref a)] st h = E_ d mX1_init 28 [.val (.ref a)] (.ref a :: st) h := e_go dX1_init_27 rfl rfl
theorem wX1_init_28 : E_ d mX1_init 28 ls st h = E_ d mX1_init 31 ls (.ref (oX h) :: st) (pO h 4 3) := e_go dX1_init_28 rfl rfl
theorem wX1_init_31 : E_ d mX1_init 31 ls (.ref a :: st) h = E_ d mX1_init 32 ls (.ref a :: .ref a :: st) h := e_go dX1_init_31 rfl rfl
theorem wX1_init_32 : E_ d mX1_init 32 ls st h = E_ d mX1_init 33 ls (.int (nI 2) :: st) h := e_iconst dX1_init_32 kiconst_2 rfl
theorem wX1_init_33 : E_ (d + 1) mX1_init 33 ls [.int x1, .ref a, .ref r1, .ref r2] h = (C_ d mJ2_init [.ref a, .int x1] h).bind fun r => E_ (d + 1) mX1_init 36 ls (xpu r.1 [.ref r1, .ref r2]) r.2 := e_call dX1_init_33 rfl rfl
theorem wX1_init_36 (ht : oT h a = 2) : E_ d mX1_init 36 ls (.ref b :: .ref a :: st) h = E_ d mX1_init 39 ls st (pR h a (va_up (oR h a) 2 (some b))) := e_putR0 dX1_init_36 rfl rfl rfl ht
theorem wX1_init_36q (ht : oT h a = 2) : E_ d mX1_init 36 ls (va_rf q :: .ref a :: st) h = E_ d mX1_init 39 ls st (pR h a (va_up (oR h a) 2 q)) := e_putR0q dX1_init_36 rfl rfl rfl ht
theorem wX1_init_39 : E_ d mX1_init 39 [.val (.ref a)] st h = E_ d mX1_init 40 [.val (.ref a)] (.ref a :: st) h := e_go dX1_init_39 rfl rfl
theorem wX1_init_40 : E_ d mX1_init 40 ls st h = E_ d mX1_init 41 ls (.int (nI 4) :: st) h := e_iconst dX1_init_40 kiconst_4 rfl
theorem wX1_init_41 (h0 : 0 ≤ x.toInt) (h1 : x.toInt ≤ 65536) : E_ d mX1_init 41 ls (.int x :: st) h = E_ d mX1_init 43 ls (.ref (oX h) :: st) (pO h 40 x.toNatClampNeg) := e_newa dX1_init_41 rfl rfl h0 h1
theorem wX1_init_43 : E_ d mX1_init 43 ls (.ref a :: st) h = E_ d mX1_init 44 ls (.ref a :: .ref a :: st) h := e_go dX1_init_43 rfl rfl
theorem wX1_init_44 : E_ d mX1_init 44 ls st h = E_ d mX1_init 45 ls (.int (nI 0) :: st) h := e_iconst dX1_init_44 kiconst_0 rfl
theorem wX1_init_45 : E_ d mX1_init 45 ls st h = E_ d mX1_init 46 ls (.int (nI 1) :: st) h := e_iconst dX1_init_45 kiconst_1 rfl
theorem wX1_init_46 (ht : oT h a = 40) (hi : xix x (oN h a) = true) : E_ d mX1_init 46 ls (.int y :: .int x :: .ref a :: st) h = E_ d mX1_init 47 ls st (pI h a (va_up (oI h a) x.toNatClampNeg y)) := e_iast dX1_init_46 rfl ht hi
theorem wX1_init_47 : E_ d mX1_init 47 ls (.ref a :: st) h = E_ d mX1_init 48 ls (.ref a :: .ref a :: st) h := e_go dX1_init_47 rfl rfl
theorem wX1_init_48 : E_ d mX1_init 48 ls st h = E_ d mX1_init 49 ls (.int (nI 1) :: st) h := e_iconst dX1_init_48 kiconst_1 rfl
theorem wX1_init_49 : E_ d mX1_init 49 ls st h = E_ d mX1_init 50 ls (.int (nI 1) :: st) h := e_iconst dX1_init_49 kiconst_1 rfl
theorem wX1_init_50 (ht : oT h a = 40) (hi : xix x (oN h a) = true) : E_ d mX1_init 50 ls (.int y :: .int x :: .ref a :: st) h = E_ d mX1_init 51 ls st (pI h a (va_up (oI h a) x.toNatClampNeg y)) := e_iast dX1_init_50 rfl ht hi
theorem wX1_init_51 : E_ d mX1_init 51 ls (.ref a :: st) h = E_ d mX1_init 52 ls (.ref a :: .ref a :: st) h := e_go dX1_init_51 rfl rfl
theorem wX1_init_52 : E_ d mX1_init 52 ls st h = E_ d mX1_init 53 ls (.int (nI 2) :: st) h := e_iconst dX1_init_52 kiconst_2 rfl
theorem wX1_init_53 : E_ d mX1_init 53 ls st h = E_ d mX1_init 54 ls (.int (nI 1) :: st) h := e_iconst dX1_init_53 kiconst_1 rfl
theorem wX1_init_54 (ht : oT h a = 40) (hi : xix x (oN h a) = true) : E_ d mX1_init 54 ls (.int y :: .int x :: .ref a :: st) h = E_ d mX1_init 55 ls st (pI h a (va_up (oI h a) x.toNatClampNeg y)) := e_iast dX1_init_54 rfl ht hi
theorem wX1_init_55 : E_ d mX1_init 55 ls (.ref a :: st) h = E_ d mX1_init 56 ls (.ref a :: .ref a :: st) h := e_go dX1_init_55 rfl rfl
theorem wX1_init_56 : E_ d mX1_init 56 ls st h = E_ d mX1_init 57 ls (.int (nI 3) :: st) h := e_iconst dX1_init_56 kiconst_3 rfl
theorem wX1_init_57 : E_ d mX1_init 57 ls st h = E_ d mX1_init 58 ls (.int (nI 1) :: st) h := e_iconst dX1_init_57 kiconst_1 rfl
theorem wX1_init_58 (ht : oT h a = 40) (hi : xix x (oN h a) = true) : E_ d mX1_init 58 ls (.int y :: .int x :: .ref a :: st) h = E_ d mX1_init 59 ls st (pI h a (va_up (oI h a) x.toNatClampNeg y)) := e_iast dX1_init_58 rfl ht hi
theorem wX1_init_59 (ht : oT h a = 2) : E_ d mX1_init 59 ls (.ref b :: .ref a :: st) h = E_ d mX1_init 62 ls st (pR h a (va_up (oR h a) 3 (some b))) := e_putR0 dX1_init_59 rfl rfl rfl ht
theorem wX1_init_59q (ht : oT h a = 2) : E_ d mX1_init 59 ls (va_rf q :: .ref a :: st) h = E_ d mX1_init 62 ls st (pR h a (va_up (oR h a) 3 q)) := e_putR0q dX1_init_59 rfl rfl rfl ht
theorem wX1_init_62 : E_ d mX1_init 62 [.val (.ref a)] st h = E_ d mX1_init 63 [.val (.ref a)] (.ref a :: st) h := e_go dX1_init_62 rfl rfl
theorem wX1_init_63 : E_ d mX1_init 63 ls st h = E_ d mX1_init 64 ls (.int (nI 4) :: st) h := e_iconst dX1_init_63 kiconst_4 rfl
theorem wX1_init_64 (h0 : 0 ≤ x.toInt) (h1 : x.toInt ≤ 65536) : E_ d mX1_init 64 ls (.int x :: st) h = E_ d mX1_init 66 ls (.ref (oX h) :: st) (pO h 40 x.toNatClampNeg) := e_newa dX1_init_64 rfl rfl h0 h1
theorem wX1_init_66 : E_ d mX1_init 66 ls (.ref a :: st) h = E_ d mX1_init 67 ls (.ref a :: .ref a :: st) h := e_go dX1_init_66 rfl rfl
theorem wX1_init_67 : E_ d mX1_init 67 ls st h = E_ d mX1_init 68 ls (.int (nI 0) :: st) h := e_iconst dX1_init_67 kiconst_0 rfl
theorem wX1_init_68 : E_ d mX1_init 68 ls st h = E_ d mX1_init 70 ls (.int (nI 100) :: st) h := e_bipush dX1_init_68 kbipush_100 rfl
theorem wX1_init_70 (ht : oT h a = 40) (hi : xix x (oN h a) = true) : E_ d mX1_init 70 ls (.int y :: .int x :: .ref a :: st) h = E_ d mX1_init 71 ls st (pI h a (va_up (oI h a) x.toNatClampNeg y)) := e_iast dX1_init_70 rfl ht hi
theorem wX1_init_71 : E_ d mX1_init 71 ls (.ref a :: st) h = E_ d mX1_init 72 ls (.ref a :: .ref a :: st) h := e_go dX1_init_71 rfl rfl
theorem wX1_init_72 : E_ d mX1_init 72 ls st h = E_ d mX1_init 73 ls (.int (nI 1) :: st) h := e_iconst dX1_init_72 kiconst_1 rfl
theorem wX1_init_73 : E_ d mX1_init 73 ls st h = E_ d mX1_init 75 ls (.int (nI 100) :: st) h := e_bipush dX1_init_73 kbipush_100 rfl
theorem wX1_init_75 (ht : oT h a = 40) (hi : xix x (oN h a) = true) : E_ d mX1_init 75 ls (.int y :: .int x :: .ref a :: st) h = E_ d mX1_init 76 ls st (pI h a (va_up (oI h a) x.toNatClampNeg y)) := e_iast dX1_init_75 rfl ht hi
theorem wX1_init_76 : E_ d mX1_init 76 ls (.ref a :: st) h = E_ d mX1_init 77 ls (.ref a :: .ref a :: st) h := e_go dX1_init_76 rfl rfl
theorem wX1_init_77 : E_ d mX1_init 77 ls st h = E_ d mX1_init 78 ls (.int (nI 2) :: st) h := e_iconst dX1_init_77 kiconst_2 rfl
theorem wX1_init_78 : E_ d mX1_init 78 ls st h = E_ d mX1_init 80 ls (.int (nI 100) :: st) h := e_bipush dX1_init_78 kbipush_100 rfl
theorem wX1_init_80 (ht : oT h a = 40) (hi : xix x (oN h a) = true) : E_ d mX1_init 80 ls (.int y :: .int x :: .ref a :: st) h = E_ d mX1_init 81 ls st (pI h a (va_up (oI h a) x.toNatClampNeg y)) := e_iast dX1_init_80 rfl ht hi
theorem wX1_init_81 : E_ d mX1_init 81 ls (.ref a :: st) h = E_ d mX1_init 82 ls (.ref a :: .ref a :: st) h := e_go dX1_init_81 rfl rfl
theorem wX1_init_82 : E_ d mX1_init 82 ls st h = E_ d mX1_init 83 ls (.int (nI 3) :: st) h := e_iconst dX1_init_82 kiconst_3 rfl
theorem wX1_init_83 : E_ d mX1_init 83 ls st h = E_ d mX1_init 85 ls (.int (nI 100) :: st) h := e_bipush dX1_init_83 kbipush_100 rfl
theorem wX1_init_85 (ht : oT h a = 40) (hi : xix x (oN h a) = true) : E_ d mX1_init 85 ls (.int y :: .int x :: .ref a :: st) h = E_ d mX1_init 86 ls st (pI h a (va_up (oI h a) x.toNatClampNeg y)) := e_iast dX1_init_85 rfl ht hi
theorem wX1_init_86 (ht : oT h a = 2) : E_ d mX1_init 86 ls (.ref b :: .ref a :: st) h = E_ d mX1_init 89 ls st (pR h a (va_up (oR h a) 4 (some b))) := e_putR0 dX1_init_86 rfl rfl rfl ht
theorem wX1_init_86q (ht : oT h a = 2) : E_ d mX1_init 86 ls (va_rf q :: .ref a :: st) h = E_ d mX1_init 89 ls st (pR h a (va_up (oR h a) 4 q)) := e_putR0q dX1_init_86 rfl rfl rfl ht
theorem wX1_init_89 : E_ d mX1_init 89 [.val (.ref a)] st h = E_ d mX1_init 90 [.val (.ref a)] (.ref a :: st) h := e_go dX1_init_89 rfl rfl
theorem wX1_init_90 : E_ d mX1_init 90 ls st h = E_ d mX1_init 92 ls (.int (nI 20) :: st) h := e_bipush dX1_init_90 kbipush_20 rfl
theorem wX1_init_92 (h0 : 0 ≤ x.toInt) (h1 : x.toInt ≤ 65536) : E_ d mX1_init 92 ls (.int x :: st) h = E_ d mX1_init 94 ls (.ref (oX h) :: st) (pO h 40 x.toNatClampNeg) := e_newa dX1_init_92 rfl rfl h0 h1
theorem wX1_init_94 (ht : oT h a = 2) : E_ d mX1_init 94 ls (.ref b :: .ref a :: st) h = E_ d mX1_init 97 ls st (pR h a (va_up (oR h a) 5 (some b))) := e_putR0 dX1_init_94 rfl rfl rfl ht
theorem wX1_init_94q (ht : oT h a = 2) : E_ d mX1_init 94 ls (va_rf q :: .ref a :: st) h = E_ d mX1_init 97 ls st (pR h a (va_up (oR h a) 5 q)) := e_putR0q dX1_init_94 rfl rfl rfl ht
theorem wX1_init_97 : E_ d mX1_init 97 ls [] h = some (none, h) := e_rt dX1_init_97 rfl rfl
/-! FootOut$State.copy -/
theorem wX1_copy_0 : E_ d mX1_copy 0 ls st h = E_ d mX1_copy 3 ls (.ref (oX h) :: st) (pO h 2 6) := e_go dX1_copy_0 rfl rfl
theorem wX1_copy_3 : E_ d mX1_copy 3 ls (.ref a :: st) h = E_ d mX1_copy 4 ls (.ref a :: .ref a :: st) h := e_go dX1_copy_3 rfl rfl
theorem wX1_copy_4 : E_ (d + 1) mX1_copy 4 ls [.ref a, .ref r1] h = (C_ d mX1_init [.ref a] h).bind fun r => E_ (d + 1) mX1_copy 7 ls (xpu r.1 [.ref r1]) r.2 := e_call dX1_copy_4 rfl rfl
theorem wX1_copy_7 : E_ d mX1_copy 7 [s0, s1, s2] (.ref a :: st) h = E_ d mX1_copy 8 [xk s0, .val (.ref a), s2] st h := e_go dX1_copy_7 rfl rfl
theorem wX1_copy_8 : E_ d mX1_copy 8 [s0, .val (.ref a), s2] st h = E_ d mX1_copy 9 [s0, .val (.ref a), s2] (.ref a :: st) h := e_go dX1_copy_8 rfl rfl
theorem wX1_copy_9 : E_ d mX1_copy 9 [.val (.ref a), s1, s2] st h = E_ d mX1_copy 10 [.val (.ref a), s1, s2] (.ref a :: st) h := e_go dX1_copy_9 rfl rfl
theorem wX1_copy_10 (ht : oT h a = 2) : E_ d mX1_copy 10 ls (.ref a :: st) h = E_ d mX1_copy 13 ls (va_rf (oR h a 0) :: st) h := e_getR dX1_copy_10 rfl rfl ht
theorem wX1_copy_13 (ht : oT h a = 3) : E_ (d + 1) mX1_copy 13 ls [.ref a, .ref r1] h = (C_ d mX2_copy [.ref a] h).bind fun r => E_ (d + 1) mX1_copy 16 ls (xpu r.1 [.ref r1]) r.2 := e_vir dX1_copy_13 rfl rfl rfl rfl rfl rfl (Nat.le_of_ble_eq_true rfl) (Nat.le_of_ble_eq_true rfl) ht
theorem wX1_copy_16 (ht : oT h a = 2) : E_ d mX1_copy 16 ls (.ref b :: .ref a :: st) h = E_ d mX1_copy 19 ls st (pR h a (va_up (oR h a) 0 (some b))) := e_putR dX1_copy_16 rfl rfl ht
theorem wX1_copy_19 : E_ d mX1_copy 19 [s0, .val (.ref a), s2] st h = E_ d mX1_copy 20 [s0, .val (.ref a), s2] (.ref a :: st) h := e_go dX1_copy_19 rfl rfl
theorem wX1_copy_20 : E_ d mX1_copy 20 [.val (.ref a), s1, s2] st h = E_ d mX1_copy 21 [.val (.ref a), s1, s2] (.ref a :: st) h := e_go dX1_copy_20 rfl rfl
theorem wX1_copy_21 (ht : oT h a = 2) : E_ d mX1_copy 21 ls (.ref a :: st) h = E_ d mX1_copy 24 ls (va_rf (oR h a 1) :: st) h := e_getR dX1_copy_21 rfl rfl ht
theorem wX1_copy_24 (ht : oT h a = 2) : E_ d mX1_copy 24 ls (.ref b :: .ref a :: st) h = E_ d mX1_copy 27 ls st (pR h a (va_up (oR h a) 1 (some b))) := e_putR dX1_copy_24 rfl rfl ht
theorem wX1_copy_27 : E_ d mX1_copy 27 ls st h = E_ d mX1_copy 28 ls (.int (nI 0) :: st) h := e_iconst dX1_copy_27 kiconst_0 rfl
theorem wX1_copy_28 : E_ d mX1_copy 28 [s0, s1, s2] (.int x :: st) h = E_ d mX1_copy 29 [s0, xk s1, .val (.int x)] st h := e_go dX1_copy_28 rfl rfl
theorem wX1_copy_29 : E_ d mX1_copy 29 [s0, s1, .val (.int x)] st h = E_ d mX1_copy 30 [s0, s1, .val (.int x)] (.int x :: st) h := e_go dX1_copy_29 rfl rfl
theorem wX1_copy_30 : E_ d mX1_copy 30 [.val (.ref a), s1, s2] st h = E_ d mX1_copy 31 [.val (.ref a), s1, s2] (.ref a :: st) h := e_go dX1_copy_30 rfl rfl
theorem wX1_copy_31 (ht : oT h a = 2) : E_ d mX1_copy 31 ls (.ref a :: st) h = E_ d mX1_copy 34 ls (va_rf (oR h a 2) :: st) h := e_getR0 dX1_copy_31 rfl rfl ht
theorem wX1_copy_34 (ht : oT h a = 4) : E_ (d + 1) mX1_copy 34 ls [.ref a, .int x1] h = (C_ d mJ2_size [.ref a] h).bind fun r => E_ (d + 1) mX1_copy 37 ls (xpu r.1 [.int x1]) r.2 := e_vir dX1_copy_34 rfl rfl rfl rfl rfl rfl (Nat.le_of_ble_eq_true rfl) (Nat.le_of_ble_eq_true rfl) ht
theorem wX1_copy_37 : E_ d mX1_copy 37 ls (.int y :: .int x :: st) h = if x < y then E_ d mX1_copy 40 ls st h else E_ d mX1_copy 68 ls st h := e_ige dX1_copy_37 rfl rfl
theorem wX1_copy_40 : E_ d mX1_copy 40 [s0, .val (.ref a), s2] st h = E_ d mX1_copy 41 [s0, .val (.ref a), s2] (.ref a :: st) h := e_go dX1_copy_40 rfl rfl
theorem wX1_copy_41 (ht : oT h a = 2) : E_ d mX1_copy 41 ls (.ref a :: st) h = E_ d mX1_copy 44 ls (va_rf (oR h a 2) :: st) h := e_getR0 dX1_copy_41 rfl rfl ht
theorem wX1_copy_44 : E_ d mX1_copy 44 [.val (.ref a), s1, s2] st h = E_ d mX1_copy 45 [.val (.ref a), s1, s2] (.ref a :: st) h := e_go dX1_copy_44 rfl rfl
theorem wX1_copy_45 (ht : oT h a = 2) : E_ d mX1_copy 45 ls (.ref a :: st) h = E_ d mX1_copy 48 ls (va_rf (oR h a 2) :: st) h := e_getR0 dX1_copy_45 rfl rfl ht
theorem wX1_copy_48 : E_ d mX1_copy 48 [s0, s1, .val (.int x)] st h = E_ d mX1_copy 49 [s0, s1, .val (.int x)] (.int x :: st) h := e_go dX1_copy_48 rfl rfl
theorem wX1_copy_49 (ht : oT h a = 4) : E_ (d + 1) mX1_copy 49 ls [.int x1, .ref a, .ref r1] h = (C_ d mJ2_get [.ref a, .int x1] h).bind fun r => E_ (d + 1) mX1_copy 52 ls (xpu r.1 [.ref r1]) r.2 := e_vir dX1_copy_49 rfl rfl rfl rfl rfl rfl (Nat.le_of_ble_eq_true rfl) (Nat.le_of_ble_eq_true rfl) ht
theorem wX1_copy_52 (ht : oT h a = 19) : E_ d mX1_copy 52 ls (.ref a :: st) h = E_ d mX1_copy 55 ls (.ref a :: st) h := e_cast dX1_copy_52 rfl rfl ht
theorem wX1_copy_52n : E_ d mX1_copy 52 ls (.null :: st) h = E_ d mX1_copy 55 ls (.null :: st) h := e_go dX1_copy_52 rfl rfl
theorem wX1_copy_55 (ht : oT h a = 19) : E_ (d + 1) mX1_copy 55 ls [.ref a, .ref r1] h = (C_ d mX19_copy [.ref a] h).bind fun r => E_ (d + 1) mX1_copy 58 ls (xpu r.1 [.ref r1]) r.2 := e_vir dX1_copy_55 rfl rfl rfl rfl rfl rfl (Nat.le_of_ble_eq_true rfl) (Nat.le_of_ble_eq_true rfl) ht
theorem wX1_copy_58 (ht : oT h a = 4) : E_ (d + 1) mX1_copy 58 ls [.ref r1, .ref a] h = (C_ d mJ2_add [.ref a, .ref r1] h).bind fun r => E_ (d + 1) mX1_copy 61 ls (xpu r.1 []) r.2 := e_vir dX1_copy_58 rfl rfl rfl rfl rfl rfl (Nat.le_of_ble_eq_true rfl) (Nat.le_of_ble_eq_true rfl) ht
theorem wX1_copy_61 : E_ d mX1_copy 61 ls (.int x :: st) h = E_ d mX1_copy 62 ls st h := e_go dX1_copy_61 rfl rfl
theorem wX1_copy_62 : E_ d mX1_copy 62 [s0, s1, .val (.int x)] st h = E_ d mX1_copy 65 [s0, xk s1, .val (.int (x + nI 1))] st h := by rw [← kiinc_1]; exact e_go dX1_copy_62 rfl rfl
theorem wX1_copy_65 : E_ d mX1_copy 65 ls st h = E_ d mX1_copy 29 ls st h := e_gt dX1_copy_65 rfl
theorem wX1_copy_68 : E_ d mX1_copy 68 ls st h = E_ d mX1_copy 69 ls (.int (nI 0) :: st) h := e_iconst dX1_copy_68 kiconst_0 rfl
theorem wX1_copy_69 : E_ d mX1_copy 69 [s0, s1, s2] (.int x :: st) h = E_ d mX1_copy 70 [s0, xk s1, .val (.int x)] st h := e_go dX1_copy_69 rfl rfl
theorem wX1_copy_70 : E_ d mX1_copy 70 [s0, s1, .val (.int x)] st h = E_ d mX1_copy 71 [s0, s1, .val (.int x)] (.int x :: st) h := e_go dX1_copy_70 rfl rfl
theorem wX1_copy_71 : E_ d mX1_copy 71 ls st h = E_ d mX1_copy 72 ls (.int (nI 4) :: st) h := e_iconst dX1_copy_71 kiconst_4 rfl
theorem wX1_copy_72 : E_ d mX1_copy 72 ls (.int y :: .int x :: st) h = if x < y then E_ d mX1_copy 75 ls st h else E_ d mX1_copy 105 ls st h := e_ige dX1_copy_72 rfl rfl
theorem wX1_copy_75 : E_ d mX1_copy 75 [s0, .val (.ref a), s2] st h = E_ d mX1_copy 76 [s0, .val (.ref a), s2] (.ref a :: st) h := e_go dX1_copy_75 rfl rfl
theorem wX1_copy_76 (ht : oT h a = 2) : E_ d mX1_copy 76 ls (.ref a :: st) h = E_ d mX1_copy 79 ls (va_rf (oR h a 3) :: st) h := e_getR0 dX1_copy_76 rfl rfl ht
theorem wX1_copy_79 : E_ d mX1_copy 79 [s0, s1, .val (.int x)] st h = E_ d mX1_copy 80 [s0, s1, .val (.int x)] (.int x :: st) h := e_go dX1_copy_79 rfl rfl
theorem wX1_copy_80 : E_ d mX1_copy 80 [.val (.ref a), s1, s2] st h = E_ d mX1_copy 81 [.val (.ref a), s1, s2] (.ref a :: st) h := e_go dX1_copy_80 rfl rfl
theorem wX1_copy_81 (ht : oT h a = 2) : E_ d mX1_copy 81 ls (.ref a :: st) h = E_ d mX1_copy 84 ls (va_rf (oR h a 3) :: st) h := e_getR0 dX1_copy_81 rfl rfl ht
theorem wX1_copy_84 : E_ d mX1_copy 84 [s0, s1, .val (.int x)] st h = E_ d mX1_copy 85 [s0, s1, .val (.int x)] (.int x :: st) h := e_go dX1_copy_84 rfl rfl
theorem wX1_copy_85 (ht : oT h a = 40) (hi : xix x (oN h a) = true) : E_ d mX1_copy 85 ls (.int x :: .ref a :: st) h = E_ d mX1_copy 86 ls (.int (oI h a x.toNatClampNeg) :: st) h := e_iald dX1_copy_85 rfl ht hi
theorem wX1_copy_86 (ht : oT h a = 40) (hi : xix x (oN h a) = true) : E_ d mX1_copy 86 ls (.int y :: .int x :: .ref a :: st) h = E_ d mX1_copy 87 ls st (pI h a (va_up (oI h a) x.toNatClampNeg y)) := e_iast dX1_copy_86 rfl ht hi
theorem wX1_copy_87 : E_ d mX1_copy 87 [s0, .val (.ref a), s2] st h = E_ d mX1_copy 88 [s0, .val (.ref a), s2] (.ref a :: st) h := e_go dX1_copy_87 rfl rfl
theorem wX1_copy_88 (ht : oT h a = 2) : E_ d mX1_copy 88 ls (.ref a :: st) h = E_ d mX1_copy 91 ls (va_rf (oR h a 4) :: st) h := e_getR0 dX1_copy_88 rfl rfl ht
theorem wX1_copy_91 : E_ d mX1_copy 91 [s0, s1, .val (.int x)] st h = E_ d mX1_copy 92 [s0, s1, .val (.int x)] (.int x :: st) h := e_go dX1_copy_91 rfl rfl
theorem wX1_copy_92 : E_ d mX1_copy 92 [.val (.ref a), s1, s2] st h = E_ d mX1_copy 93 [.val (.ref a), s1, s2] (.ref a :: st) h := e_go dX1_copy_92 rfl rfl
theorem wX1_copy_93 (ht : oT h a = 2) : E_ d mX1_copy 93 ls (.ref a :: st) h = E_ d mX1_copy 96 ls (va_rf (oR h a 4) :: st) h := e_getR0 dX1_copy_93 rfl rfl ht
theorem wX1_copy_96 : E_ d mX1_copy 96 [s0, s1, .val (.int x)] st h = E_ d mX1_copy 97 [s0, s1, .val (.int x)] (.int x :: st) h := e_go dX1_copy_96 rfl rfl
theorem wX1_copy_97 (ht : oT h a = 40) (hi : xix x (oN h a) = true) : E_ d mX1_copy 97 ls (.int x :: .ref a :: st) h = E_ d mX1_copy 98 ls (.int (oI h a x.toNatClampNeg) :: st) h := e_iald dX1_copy_97 rfl ht hi
theorem wX1_copy_98 (ht : oT h a = 40) (hi : xix x (oN h a) = true) : E_ d mX1_copy 98 ls (.int y :: .int x :: .ref a :: st) h = E_ d mX1_copy 99 ls st (pI h a (va_up (oI h a) x.toNatClampNeg y)) := e_iast dX1_copy_98 rfl ht hi
theorem wX1_copy_99 : E_ d mX1_copy 99 [s0, s1, .val (.int x)] st h = E_ d mX1_copy 102 [s0, xk s1, .val (.int (x + nI 1))] st h := by rw [← kiinc_1]; exact e_go dX1_copy_99 rfl rfl
theorem wX1_copy_102 : E_ d mX1_copy 102 ls st h = E_ d mX1_copy 70 ls st h := e_gt dX1_copy_102 rfl
theorem wX1_copy_105 : E_ d mX1_copy 105 ls st h = E_ d mX1_copy 106 ls (.int (nI 0) :: st) h := e_iconst dX1_copy_105 kiconst_0 rfl
theorem wX1_copy_106 : E_ d mX1_copy 106 [s0, s1, s2] (.int x :: st) h = E_ d mX1_copy 107 [s0, xk s1, .val (.int x)] st h := e_go dX1_copy_106 rfl rfl
theorem wX1_copy_107 : E_ d mX1_copy 107 [s0, s1, .val (.int x)] st h = E_ d mX1_copy 108 [s0, s1, .val (.int x)] (.int x :: st) h := e_go dX1_copy_107 rfl rfl
theorem wX1_copy_108 : E_ d mX1_copy 108 [.val (.ref a), s1, s2] st h = E_ d mX1_copy 109 [.val (.ref a), s1, s2] (.ref a :: st) h := e_go dX1_copy_108 rfl rfl
theorem wX1_copy_109 (ht : oT h a = 2) : E_ d mX1_copy 109 ls (.ref a :: st) h = E_ d mX1_copy 112 ls (va_rf (oR h a 5) :: st) h := e_getR0 dX1_copy_109 rfl rfl ht
theorem wX1_copy_112 (ht : 39 ≤ oT h a ∧ oT h a ≤ 48) : E_ d mX1_copy 112 ls (.ref a :: st) h = E_ d mX1_copy 113 ls (.int (nI (oN h a)) :: st) h := e_len dX1_copy_112 rfl ht
theorem wX1_copy_113 : E_ d mX1_copy 113 ls (.int y :: .int x :: st) h = if x < y then E_ d mX1_copy 116 ls st h else E_ d mX1_copy 134 ls st h := e_ige dX1_copy_113 rfl rfl
theorem wX1_copy_116 : E_ d mX1_copy 116 [s0, .val (.ref a), s2] st h = E_ d mX1_copy 117 [s0, .val (.ref a), s2] (.ref a :: st) h := e_go dX1_copy_116 rfl rfl
theorem wX1_copy_117 (ht : oT h a = 2) : E_ d mX1_copy 117 ls (.ref a :: st) h = E_ d mX1_copy 120 ls (va_rf (oR h a 5) :: st) h := e_getR0 dX1_copy_117 rfl rfl ht
theorem wX1_copy_120 : E_ d mX1_copy 120 [s0, s1, .val (.int x)] st h = E_ d mX1_copy 121 [s0, s1, .val (.int x)] (.int x :: st) h := e_go dX1_copy_120 rfl rfl
theorem wX1_copy_121 : E_ d mX1_copy 121 [.val (.ref a), s1, s2] st h = E_ d mX1_copy 122 [.val (.ref a), s1, s2] (.ref a :: st) h := e_go dX1_copy_121 rfl rfl
theorem wX1_copy_122 (ht : oT h a = 2) : E_ d mX1_copy 122 ls (.ref a :: st) h = E_ d mX1_copy 125 ls (va_rf (oR h a 5) :: st) h := e_getR0 dX1_copy_122 rfl rfl ht
theorem wX1_copy_125 : E_ d mX1_copy 125 [s0, s1, .val (.int x)] st h = E_ d mX1_copy 126 [s0, s1, .val (.int x)] (.int x :: st) h := e_go dX1_copy_125 rfl rfl
theorem wX1_copy_126 (ht : oT h a = 40) (hi : xix x (oN h a) = true) : E_ d mX1_copy 126 ls (.int x :: .ref a :: st) h = E_ d mX1_copy 127 ls (.int (oI h a x.toNatClampNeg) :: st) h := e_iald dX1_copy_126 rfl ht hi
theorem wX1_copy_127 (ht : oT h a = 40) (hi : xix x (oN h a) = true) : E_ d mX1_copy 127 ls (.int y :: .int x :: .ref a :: st) h = E_ d mX1_copy 128 ls st (pI h a (va_up (oI h a) x.toNatClampNeg y)) := e_iast dX1_copy_127 rfl ht hi
theorem wX1_copy_128 : E_ d mX1_copy 128 [s0, s1, .val (.int x)] st h = E_ d mX1_copy 131 [s0, xk s1, .val (.int (x + nI 1))] st h := by rw [← kiinc_1]; exact e_go dX1_copy_128 rfl rfl
theorem wX1_copy_131 : E_ d mX1_copy 131 ls st h = E_ d mX1_copy 107 ls st h := e_gt dX1_copy_131 rfl
theorem wX1_copy_134 : E_ d mX1_copy 134 [s0, .val (.ref a), s2] st h = E_ d mX1_copy 135 [s0, .val (.ref a), s2] (.ref a :: st) h := e_go dX1_copy_134 rfl rfl
theorem wX1_copy_135 : E_ d mX1_copy 135 ls [.ref a] h = some (some (.ref a), h) := e_rt dX1_copy_135 rfl rfl
/-! FootOut$Trait.<init> -/
theorem wX10_init_0 : E_ d mX10_init 0 [.val (.ref a), s1] st h = E_ d mX10_init 1 [.val (.ref a), s1] (.ref a :: st) h := e_go dX10_init_0 rfl rfl
theorem wX10_init_1 : E_ (d + 1) mX10_init 1 ls [.ref a] h = (C_ d mX8_init [.ref a] h).bind fun r => E_ (d + 1) mX10_init 4 ls (xpu r.1 []) r.2 := e_call dX10_init_1 rfl rfl
theorem wX10_init_4 : E_ d mX10_init 4 [.val (.ref a), s1] st h = E_ d mX10_init 5 [.val (.ref a), s1] (.ref a :: st) h := e_go dX10_init_4 rfl rfl
theorem wX10_init_5 : E_ d mX10_init 5 [s0, .val (.int x)] st h = E_ d mX10_init 6 [s0, .val (.int x)] (.int x :: st) h := e_go dX10_init_5 rfl rfl
theorem wX10_init_6 (ht : oT h a = 11) : E_ d mX10_init 6 ls (.int x :: .ref a :: st) h = E_ d mX10_init 9 ls st (pI h a (va_up (oI h a) 0 x)) := e_putI0 dX10_init_6 rfl rfl rfl ht
theorem wX10_init_9 : E_ d mX10_init 9 ls [] h = some (none, h) := e_rt dX10_init_9 rfl rfl
/-! FootOut$Trait.is -/
theorem wX10_is_0 : E_ d mX10_is 0 [s0, .val (.ref a), s2] st h = E_ d mX10_is 1 [s0, .val (.ref a), s2] (.ref a :: st) h := e_go dX10_is_0 rfl rfl
theorem wX10_is_1 (ht : oT h a = 5) : E_ d mX10_is 1 ls (.ref a :: st) h = E_ d mX10_is 4 ls (va_rf (oR h a 5) :: st) h := e_getR dX10_is_1 rfl rfl ht
theorem wX10_is_4 (ht : oT h a = 3) : E_ d mX10_is 4 ls (.ref a :: st) h = E_ d mX10_is 7 ls (.int (oI h a 2) :: st) h := e_getI dX10_is_4 rfl rfl ht
theorem wX10_is_7 : E_ d mX10_is 7 [.val (.ref a), s1, s2] st h = E_ d mX10_is 8 [.val (.ref a), s1, s2] (.ref a :: st) h := e_go dX10_is_7 rfl rfl
theorem wX10_is_8 (ht : oT h a = 11) : E_ d mX10_is 8 ls (.ref a :: st) h = E_ d mX10_is 11 ls (.int (oI h a 0) :: st) h := e_getI0 dX10_is_8 rfl rfl ht
theorem wX10_is_11 : E_ (d + 1) mX10_is 11 ls [.int x2, .int x1] h = (C_ d mX0_has [.int x1, .int x2] h).bind fun r => E_ (d + 1) mX10_is 14 ls (xpu r.1 []) r.2 := e_call dX10_is_11 rfl rfl
theorem wX10_is_14 (hx : x = 0 ∨ x = 1) : E_ d mX10_is 14 ls [.int x] h = some (some (.int x), h) := e_rtZ dX10_is_14 rfl hx
/-! FootOut$Seen.<init> -/
theorem wX11_init_0 : E_ d mX11_init 0 [.val (.ref a)] st h = E_ d mX11_init 1 [.val (.ref a)] (.ref a :: st) h := e_go dX11_init_0 rfl rfl
theorem wX11_init_1 : E_ (d + 1) mX11_init 1 ls [.ref a] h = (C_ d mX8_init [.ref a] h).bind fun r => E_ (d + 1) mX11_init 4 ls (xpu r.1 []) r.2 := e_call dX11_init_1 rfl rfl
theorem wX11_init_4 : E_ d mX11_init 4 ls [] h = some (none, h) := e_rt dX11_init_4 rfl rfl
/-! FootOut$Seen.is -/
theorem wX11_is_0 : E_ d mX11_is 0 ls st h = E_ d mX11_is 1 ls (.int (nI 0) :: st) h := e_iconst dX11_is_0 kiconst_0 rfl
theorem wX11_is_1 : E_ d mX11_is 1 [s0, s1, s2, s3] (.int x :: st) h = E_ d mX11_is 2 [s0, s1, xk s2, .val (.int x)] st h := e_go dX11_is_1 rfl rfl
theorem wX11_is_2 : E_ d mX11_is 2 [s0, s1, s2, .val (.int x)] st h = E_ d mX11_is 3 [s0, s1, s2, .val (.int x)] (.int x :: st) h := e_go dX11_is_2 rfl rfl
theorem wX11_is_3 : E_ d mX11_is 3 [s0, .val (.ref a), s2, s3] st h = E_ d mX11_is 4 [s0, .val (.ref a), s2, s3] (.ref a :: st) h := e_go dX11_is_3 rfl rfl
theorem wX11_is_4 (ht : oT h a = 5) : E_ (d + 1) mX11_is 4 ls [.ref a, .int x1] h = (C_ d mX3_many [.ref a] h).bind fun r => E_ (d + 1) mX11_is 7 ls (xpu r.1 [.int x1]) r.2 := e_vir dX11_is_4 rfl rfl rfl rfl rfl rfl (Nat.le_of_ble_eq_true rfl) (Nat.le_of_ble_eq_true rfl) ht
theorem wX11_is_7 : E_ d mX11_is 7 ls (.int y :: .int x :: st) h = if x < y then E_ d mX11_is 10 ls st h else E_ d mX11_is 42 ls st h := e_ige dX11_is_7 rfl rfl
theorem wX11_is_10 : E_ d mX11_is 10 [s0, s1, s2, .val (.int x)] st h = E_ d mX11_is 11 [s0, s1, s2, .val (.int x)] (.int x :: st) h := e_go dX11_is_10 rfl rfl
theorem wX11_is_11 : E_ d mX11_is 11 [s0, s1, .val (.int x), s3] st h = E_ d mX11_is 12 [s0, s1, .val (.int x), s3] (.int x :: st) h := e_go dX11_is_11 rfl rfl
theorem wX11_is_12 : E_ d mX11_is 12 ls (.int y :: .int x :: st) h = if x = y then E_ d mX11_is 36 ls st h else E_ d mX11_is 15 ls st h := e_ieq dX11_is_12 rfl rfl
theorem wX11_is_15 : E_ d mX11_is 15 [s0, .val (.ref a), s2, s3] st h = E_ d mX11_is 16 [s0, .val (.ref a), s2, s3] (.ref a :: st) h := e_go dX11_is_15 rfl rfl
theorem wX11_is_16 (ht : oT h a = 5) : E_ d mX11_is 16 ls (.ref a :: st) h = E_ d mX11_is 19 ls (va_rf (oR h a 0) :: st) h := e_getR0 dX11_is_16 rfl rfl ht
theorem wX11_is_19 : E_ d mX11_is 19 [s0, s1, s2, .val (.int x)] st h = E_ d mX11_is 20 [s0, s1, s2, .val (.int x)] (.int x :: st) h := e_go dX11_is_19 rfl rfl
theorem wX11_is_20 (ht : oT h a = 40) (hi : xix x (oN h a) = true) : E_ d mX11_is 20 ls (.int x :: .ref a :: st) h = E_ d mX11_is 21 ls (.int (oI h a x.toNatClampNeg) :: st) h := e_iald dX11_is_20 rfl ht hi
theorem wX11_is_21 : E_ d mX11_is 21 ls (.int x :: st) h = if 0 < x then E_ d mX11_is 24 ls st h else E_ d mX11_is 36 ls st h := e_zle dX11_is_21 rfl rfl
theorem wX11_is_24 : E_ d mX11_is 24 [.val (.ref a), s1, s2, s3] st h = E_ d mX11_is 25 [.val (.ref a), s1, s2, s3] (.ref a :: st) h := e_go dX11_is_24 rfl rfl
theorem wX11_is_25 : E_ d mX11_is 25 [s0, .val (.ref a), s2, s3] st h = E_ d mX11_is 26 [s0, .val (.ref a), s2, s3] (.ref a :: st) h := e_go dX11_is_25 rfl rfl
theorem wX11_is_26 : E_ d mX11_is 26 [s0, s1, .val (.int x), s3] st h = E_ d mX11_is 27 [s0, s1, .val (.int x), s3] (.int x :: st) h := e_go dX11_is_26 rfl rfl
theorem wX11_is_27 : E_ d mX11_is 27 [s0, s1, s2, .val (.int x)] st h = E_ d mX11_is 28 [s0, s1, s2, .val (.int x)] (.int x :: st) h := e_go dX11_is_27 rfl rfl
theorem wX11_is_28t12 (ht : oT h a = 12) : E_ (d + 1) mX11_is 28 ls [.int x2, .int x1, .ref r1, .ref a] h = (C_ d mX12_isSo [.ref a, .ref r1, .int x1, .int x2] h).bind fun r => E_ (d + 1) mX11_is 31 ls (xpu r.1 []) r.2 := e_vir dX11_is_28 rfl rfl rfl rfl rfl rfl (Nat.le_of_ble_eq_true rfl) (Nat.le_of_ble_eq_true rfl) ht
theorem wX11_is_28t13 (ht : oT h a = 13) : E_ (d + 1) mX11_is 28 ls [.int x2, .int x1, .ref r1, .ref a] h = (C_ d mX13_isSo [.ref a, .ref r1, .int x1, .int x2] h).bind fun r => E_ (d + 1) mX11_is 31 ls (xpu r.1 []) r.2 := e_vir dX11_is_28 rfl rfl rfl rfl rfl rfl (Nat.le_of_ble_eq_true rfl) (Nat.le_of_ble_eq_true rfl) ht
theorem wX11_is_28t14 (ht : oT h a = 14) : E_ (d + 1) mX11_is 28 ls [.int x2, .int x1, .ref r1, .ref a] h = (C_ d mX14_isSo [.ref a, .ref r1, .int x1, .int x2] h).bind fun r => E_ (d + 1) mX11_is 31 ls (xpu r.1 []) r.2 := e_vir dX11_is_28 rfl rfl rfl rfl rfl rfl (Nat.le_of_ble_eq_true rfl) (Nat.le_of_ble_eq_true rfl) ht
theorem wX11_is_31 : E_ d mX11_is 31 ls (.int x :: st) h = if x = 0 then E_ d mX11_is 36 ls st h else E_ d mX11_is 34 ls st h := e_zeq dX11_is_31 rfl rfl
theorem wX11_is_34 : E_ d mX11_is 34 ls st h = E_ d mX11_is 35 ls (.int (nI 1) :: st) h := e_iconst dX11_is_34 kiconst_1 rfl
theorem wX11_is_35 (hx : x = 0 ∨ x = 1) : E_ d mX11_is 35 ls [.int x] h = some (some (.int x), h) := e_rtZ dX11_is_35 rfl hx
theorem wX11_is_36 : E_ d mX11_is 36 [s0, s1, s2, .val (.int x)] st h = E_ d mX11_is 39 [s0, s1, xk s2, .val (.int (x + nI 1))] st h := by rw [← kiinc_1]; exact e_go dX11_is_36 rfl rfl
theorem wX11_is_39 : E_ d mX11_is 39 ls st h = E_ d mX11_is 2 ls st h := e_gt dX11_is_39 rfl
theorem wX11_is_42 : E_ d mX11_is 42 ls st h = E_ d mX11_is 43 ls (.int (nI 0) :: st) h := e_iconst dX11_is_42 kiconst_0 rfl
theorem wX11_is_43 (hx : x = 0 ∨ x = 1) : E_ d mX11_is 43 ls [.int x] h = some (some (.int x), h) := e_rtZ dX11_is_43 rfl hx
/-! FootOut$Ahead.<init> -/
theorem wX12_init_0 : E_ d mX12_init 0 [.val (.ref a)] st h = E_ d mX12_init 1 [.val (.ref a)] (.ref a :: st) h := e_go dX12_init_0 rfl rfl
theorem wX12_init_1 : E_ (d + 1) mX12_init 1 ls [.ref a] h = (C_ d mX11_init [.ref a] h).bind fun r => E_ (d + 1) mX12_init 4 ls (xpu r.1 []) r.2 := e_call dX12_init_1 rfl rfl
theorem wX12_init_4 : E_ d mX12_init 4 ls [] h = some (none, h) := e_rt dX12_init_4 rfl rfl
/-! FootOut$Ahead.isSo -/
theorem wX12_isSo_0 : E_ d mX12_isSo 0 [s0, .val (.ref a), s2, s3] st h = E_ d mX12_isSo 1 [s0, .val (.ref a), s2, s3] (.ref a :: st) h := e_go dX12_isSo_0 rfl rfl
theorem wX12_isSo_1 : E_ d mX12_isSo 1 [s0, s1, s2, .val (.int x)] st h = E_ d mX12_isSo 2 [s0, s1, s2, .val (.int x)] (.int x :: st) h := e_go dX12_isSo_1 rfl rfl
theorem wX12_isSo_2 (ht : oT h a = 5) : E_ (d + 1) mX12_isSo 2 ls [.int x1, .ref a] h = (C_ d mX3_car [.ref a, .int x1] h).bind fun r => E_ (d + 1) mX12_isSo 5 ls (xpu r.1 []) r.2 := e_vir dX12_isSo_2 rfl rfl rfl rfl rfl rfl (Nat.le_of_ble_eq_true rfl) (Nat.le_of_ble_eq_true rfl) ht
theorem wX12_isSo_5 (ht : oT h a = 9) : E_ d mX12_isSo 5 ls (.ref a :: st) h = E_ d mX12_isSo 8 ls (.int (oI h a 0) :: st) h := e_getI0 dX12_isSo_5 rfl rfl ht
theorem wX12_isSo_8 : E_ d mX12_isSo 8 [s0, .val (.ref a), s2, s3] st h = E_ d mX12_isSo 9 [s0, .val (.ref a), s2, s3] (.ref a :: st) h := e_go dX12_isSo_8 rfl rfl
theorem wX12_isSo_9 : E_ d mX12_isSo 9 [s0, s1, .val (.int x), s3] st h = E_ d mX12_isSo 10 [s0, s1, .val (.int x), s3] (.int x :: st) h := e_go dX12_isSo_9 rfl rfl
theorem wX12_isSo_10 (ht : oT h a = 5) : E_ (d + 1) mX12_isSo 10 ls [.int x1, .ref a, .int x2] h = (C_ d mX3_car [.ref a, .int x1] h).bind fun r => E_ (d + 1) mX12_isSo 13 ls (xpu r.1 [.int x2]) r.2 := e_vir dX12_isSo_10 rfl rfl rfl rfl rfl rfl (Nat.le_of_ble_eq_true rfl) (Nat.le_of_ble_eq_true rfl) ht
theorem wX12_isSo_13 (ht : oT h a = 9) : E_ d mX12_isSo 13 ls (.ref a :: st) h = E_ d mX12_isSo 16 ls (.int (oI h a 0) :: st) h := e_getI0 dX12_isSo_13 rfl rfl ht
theorem wX12_isSo_16 : E_ d mX12_isSo 16 ls (.int y :: .int x :: st) h = if x = y then E_ d mX12_isSo 19 ls st h else E_ d mX12_isSo 48 ls st h := e_ine dX12_isSo_16 rfl rfl
theorem wX12_isSo_19 : E_ d mX12_isSo 19 [s0, .val (.ref a), s2, s3] st h = E_ d mX12_isSo 20 [s0, .val (.ref a), s2, s3] (.ref a :: st) h := e_go dX12_isSo_19 rfl rfl
theorem wX12_isSo_20 (ht : oT h a = 5) : E_ d mX12_isSo 20 ls (.ref a :: st) h = E_ d mX12_isSo 23 ls (va_rf (oR h a 0) :: st) h := e_getR0 dX12_isSo_20 rfl rfl ht
theorem wX12_isSo_23 : E_ d mX12_isSo 23 [s0, s1, s2, .val (.int x)] st h = E_ d mX12_isSo 24 [s0, s1, s2, .val (.int x)] (.int x :: st) h := e_go dX12_isSo_23 rfl rfl
theorem wX12_isSo_24 (ht : oT h a = 40) (hi : xix x (oN h a) = true) : E_ d mX12_isSo 24 ls (.int x :: .ref a :: st) h = E_ d mX12_isSo 25 ls (.int (oI h a x.toNatClampNeg) :: st) h := e_iald dX12_isSo_24 rfl ht hi
theorem wX12_isSo_25 : E_ d mX12_isSo 25 [s0, .val (.ref a), s2, s3] st h = E_ d mX12_isSo 26 [s0, .val (.ref a), s2, s3] (.ref a :: st) h := e_go dX12_isSo_25 rfl rfl
theorem wX12_isSo_26 (ht : oT h a = 5) : E_ d mX12_isSo 26 ls (.ref a :: st) h = E_ d mX12_isSo 29 ls (va_rf (oR h a 0) :: st) h := e_getR0 dX12_isSo_26 rfl rfl ht
theorem wX12_isSo_29 : E_ d mX12_isSo 29 [s0, s1, .val (.int x), s3] st h = E_ d mX12_isSo 30 [s0, s1, .val (.int x), s3] (.int x :: st) h := e_go dX12_isSo_29 rfl rfl
theorem wX12_isSo_30 (ht : oT h a = 40) (hi : xix x (oN h a) = true) : E_ d mX12_isSo 30 ls (.int x :: .ref a :: st) h = E_ d mX12_isSo 31 ls (.int (oI h a x.toNatClampNeg) :: st) h := e_iald dX12_isSo_30 rfl ht hi
theorem wX12_isSo_31 : E_ d mX12_isSo 31 ls (.int y :: .int x :: st) h = if x < y then E_ d mX12_isSo 34 ls st h else E_ d mX12_isSo 48 ls st h := e_ige dX12_isSo_31 rfl rfl
theorem wX12_isSo_34 : E_ d mX12_isSo 34 [s0, .val (.ref a), s2, s3] st h = E_ d mX12_isSo 35 [s0, .val (.ref a), s2, s3] (.ref a :: st) h := e_go dX12_isSo_34 rfl rfl
theorem wX12_isSo_35 (ht : oT h a = 5) : E_ d mX12_isSo 35 ls (.ref a :: st) h = E_ d mX12_isSo 38 ls (va_rf (oR h a 2) :: st) h := e_getR0 dX12_isSo_35 rfl rfl ht
theorem wX12_isSo_38 : E_ d mX12_isSo 38 [s0, s1, s2, .val (.int x)] st h = E_ d mX12_isSo 39 [s0, s1, s2, .val (.int x)] (.int x :: st) h := e_go dX12_isSo_38 rfl rfl
theorem wX12_isSo_39 (ht : oT h a = 40) (hi : xix x (oN h a) = true) : E_ d mX12_isSo 39 ls (.int x :: .ref a :: st) h = E_ d mX12_isSo 40 ls (.int (oI h a x.toNatClampNeg) :: st) h := e_iald dX12_isSo_39 rfl ht hi
theorem wX12_isSo_40 : E_ d mX12_isSo 40 ls st h = E_ d mX12_isSo 41 ls (.int (nI 2) :: st) h := e_iconst dX12_isSo_40 kiconst_2 rfl
theorem wX12_isSo_41 : E_ d mX12_isSo 41 ls (.int y :: .int x :: st) h = if x = y then E_ d mX12_isSo 44 ls st h else E_ d mX12_isSo 48 ls st h := e_ine dX12_isSo_41 rfl rfl
theorem wX12_isSo_44 : E_ d mX12_isSo 44 ls st h = E_ d mX12_isSo 45 ls (.int (nI 1) :: st) h := e_iconst dX12_isSo_44 kiconst_1 rfl
theorem wX12_isSo_45 : E_ d mX12_isSo 45 ls st h = E_ d mX12_isSo 49 ls st h := e_gt dX12_isSo_45 rfl
theorem wX12_isSo_48 : E_ d mX12_isSo 48 ls st h = E_ d mX12_isSo 49 ls (.int (nI 0) :: st) h := e_iconst dX12_isSo_48 kiconst_0 rfl
theorem wX12_isSo_49 (hx : x = 0 ∨ x = 1) : E_ d mX12_isSo 49 ls [.int x] h = some (some (.int x), h) := e_rtZ dX12_isSo_49 rfl hx
/-! FootOut$Beside.<init> -/
theorem wX13_init_0 : E_ d mX13_init 0 [.val (.ref a)] st h = E_ d mX13_init 1 [.val (.ref a)] (.ref a :: st) h := e_go dX13_init_0 rfl rfl
theorem wX13_init_1 : E_ (d + 1) mX13_init 1 ls [.ref a] h = (C_ d mX11_init [.ref a] h).bind fun r => E_ (d + 1) mX13_init 4 ls (xpu r.1 []) r.2 := e_call dX13_init_1 rfl rfl
theorem wX13_init_4 : E_ d mX13_init 4 ls [] h = some (none, h) := e_rt dX13_init_4 rfl rfl
/-! FootOut$Beside.isSo -/
theorem wX13_isSo_0 : E_ d mX13_isSo 0 [s0, .val (.ref a), s2, s3] st h = E_ d mX13_isSo 1 [s0, .val (.ref a), s2, s3] (.ref a :: st) h := e_go dX13_isSo_0 rfl rfl
theorem wX13_isSo_1 : E_ d mX13_isSo 1 [s0, s1, s2, .val (.int x)] st h = E_ d mX13_isSo 2 [s0, s1, s2, .val (.int x)] (.int x :: st) h := e_go dX13_isSo_1 rfl rfl
theorem wX13_isSo_2 (ht : oT h a = 5) : E_ (d + 1) mX13_isSo 2 ls [.int x1, .ref a] h = (C_ d mX3_car [.ref a, .int x1] h).bind fun r => E_ (d + 1) mX13_isSo 5 ls (xpu r.1 []) r.2 := e_vir dX13_isSo_2 rfl rfl rfl rfl rfl rfl (Nat.le_of_ble_eq_true rfl) (Nat.le_of_ble_eq_true rfl) ht
theorem wX13_isSo_5 (ht : oT h a = 9) : E_ d mX13_isSo 5 ls (.ref a :: st) h = E_ d mX13_isSo 8 ls (.int (oI h a 0) :: st) h := e_getI0 dX13_isSo_5 rfl rfl ht
theorem wX13_isSo_8 : E_ d mX13_isSo 8 [s0, .val (.ref a), s2, s3] st h = E_ d mX13_isSo 9 [s0, .val (.ref a), s2, s3] (.ref a :: st) h := e_go dX13_isSo_8 rfl rfl
theorem wX13_isSo_9 : E_ d mX13_isSo 9 [s0, s1, .val (.int x), s3] st h = E_ d mX13_isSo 10 [s0, s1, .val (.int x), s3] (.int x :: st) h := e_go dX13_isSo_9 rfl rfl
theorem wX13_isSo_10 (ht : oT h a = 5) : E_ (d + 1) mX13_isSo 10 ls [.int x1, .ref a, .int x2] h = (C_ d mX3_car [.ref a, .int x1] h).bind fun r => E_ (d + 1) mX13_isSo 13 ls (xpu r.1 [.int x2]) r.2 := e_vir dX13_isSo_10 rfl rfl rfl rfl rfl rfl (Nat.le_of_ble_eq_true rfl) (Nat.le_of_ble_eq_true rfl) ht
theorem wX13_isSo_13 (ht : oT h a = 9) : E_ d mX13_isSo 13 ls (.ref a :: st) h = E_ d mX13_isSo 16 ls (.int (oI h a 0) :: st) h := e_getI0 dX13_isSo_13 rfl rfl ht
theorem wX13_isSo_16 : E_ d mX13_isSo 16 ls (.int y :: .int x :: st) h = E_ d mX13_isSo 17 ls (.int (x - y) :: st) h := e_go dX13_isSo_16 rfl rfl
theorem wX13_isSo_17 : E_ d mX13_isSo 17 ls [.int x1] h = (xP 8 [.int x1] h).bind fun r => E_ d mX13_isSo 20 ls (xpu r.1 []) r.2 := e_staP dX13_isSo_17 rfl (Nat.le_of_ble_eq_true rfl) rfl rfl rfl (Nat.le_of_ble_eq_true rfl)
theorem wX13_isSo_20 : E_ d mX13_isSo 20 ls st h = E_ d mX13_isSo 21 ls (.int (nI 1) :: st) h := e_iconst dX13_isSo_20 kiconst_1 rfl
theorem wX13_isSo_21 : E_ d mX13_isSo 21 ls (.int y :: .int x :: st) h = if x = y then E_ d mX13_isSo 24 ls st h else E_ d mX13_isSo 38 ls st h := e_ine dX13_isSo_21 rfl rfl
theorem wX13_isSo_24 : E_ d mX13_isSo 24 [s0, .val (.ref a), s2, s3] st h = E_ d mX13_isSo 25 [s0, .val (.ref a), s2, s3] (.ref a :: st) h := e_go dX13_isSo_24 rfl rfl
theorem wX13_isSo_25 (ht : oT h a = 5) : E_ d mX13_isSo 25 ls (.ref a :: st) h = E_ d mX13_isSo 28 ls (va_rf (oR h a 2) :: st) h := e_getR0 dX13_isSo_25 rfl rfl ht
theorem wX13_isSo_28 : E_ d mX13_isSo 28 [s0, s1, s2, .val (.int x)] st h = E_ d mX13_isSo 29 [s0, s1, s2, .val (.int x)] (.int x :: st) h := e_go dX13_isSo_28 rfl rfl
theorem wX13_isSo_29 (ht : oT h a = 40) (hi : xix x (oN h a) = true) : E_ d mX13_isSo 29 ls (.int x :: .ref a :: st) h = E_ d mX13_isSo 30 ls (.int (oI h a x.toNatClampNeg) :: st) h := e_iald dX13_isSo_29 rfl ht hi
theorem wX13_isSo_30 : E_ d mX13_isSo 30 ls st h = E_ d mX13_isSo 31 ls (.int (nI 2) :: st) h := e_iconst dX13_isSo_30 kiconst_2 rfl
theorem wX13_isSo_31 : E_ d mX13_isSo 31 ls (.int y :: .int x :: st) h = if x = y then E_ d mX13_isSo 34 ls st h else E_ d mX13_isSo 38 ls st h := e_ine dX13_isSo_31 rfl rfl
theorem wX13_isSo_34 : E_ d mX13_isSo 34 ls st h = E_ d mX13_isSo 35 ls (.int (nI 1) :: st) h := e_iconst dX13_isSo_34 kiconst_1 rfl
theorem wX13_isSo_35 : E_ d mX13_isSo 35 ls st h = E_ d mX13_isSo 39 ls st h := e_gt dX13_isSo_35 rfl
theorem wX13_isSo_38 : E_ d mX13_isSo 38 ls st h = E_ d mX13_isSo 39 ls (.int (nI 0) :: st) h := e_iconst dX13_isSo_38 kiconst_0 rfl
theorem wX13_isSo_39 (hx : x = 0 ∨ x = 1) : E_ d mX13_isSo 39 ls [.int x] h = some (some (.int x), h) := e_rtZ dX13_isSo_39 rfl hx
/-! FootOut$Passed.<init> -/
theorem wX14_init_0 : E_ d mX14_init 0 [.val (.ref a)] st h = E_ d mX14_init 1 [.val (.ref a)] (.ref a :: st) h := e_go dX14_init_0 rfl rfl
theorem wX14_init_1 : E_ (d + 1) mX14_init 1 ls [.ref a] h = (C_ d mX11_init [.ref a] h).bind fun r => E_ (d + 1) mX14_init 4 ls (xpu r.1 []) r.2 := e_call dX14_init_1 rfl rfl
theorem wX14_init_4 : E_ d mX14_init 4 ls [] h = some (none, h) := e_rt dX14_init_4 rfl rfl
/-! FootOut$Passed.isSo -/
theorem wX14_isSo_0 : E_ d mX14_isSo 0 [s0, .val (.ref a), s2, s3] st h = E_ d mX14_isSo 1 [s0, .val (.ref a), s2, s3] (.ref a :: st) h := e_go dX14_isSo_0 rfl rfl
theorem wX14_isSo_1 : E_ d mX14_isSo 1 [s0, s1, s2, .val (.int x)] st h = E_ d mX14_isSo 2 [s0, s1, s2, .val (.int x)] (.int x :: st) h := e_go dX14_isSo_1 rfl rfl
theorem wX14_isSo_2 (ht : oT h a = 5) : E_ (d + 1) mX14_isSo 2 ls [.int x1, .ref a] h = (C_ d mX3_car [.ref a, .int x1] h).bind fun r => E_ (d + 1) mX14_isSo 5 ls (xpu r.1 []) r.2 := e_vir dX14_isSo_2 rfl rfl rfl rfl rfl rfl (Nat.le_of_ble_eq_true rfl) (Nat.le_of_ble_eq_true rfl) ht
theorem wX14_isSo_5 (ht : oT h a = 9) : E_ d mX14_isSo 5 ls (.ref a :: st) h = E_ d mX14_isSo 8 ls (.int (oI h a 0) :: st) h := e_getI0 dX14_isSo_5 rfl rfl ht
theorem wX14_isSo_8 : E_ d mX14_isSo 8 [s0, .val (.ref a), s2, s3] st h = E_ d mX14_isSo 9 [s0, .val (.ref a), s2, s3] (.ref a :: st) h := e_go dX14_isSo_8 rfl rfl
theorem wX14_isSo_9 : E_ d mX14_isSo 9 [s0, s1, .val (.int x), s3] st h = E_ d mX14_isSo 10 [s0, s1, .val (.int x), s3] (.int x :: st) h := e_go dX14_isSo_9 rfl rfl
theorem wX14_isSo_10 (ht : oT h a = 5) : E_ (d + 1) mX14_isSo 10 ls [.int x1, .ref a, .int x2] h = (C_ d mX3_car [.ref a, .int x1] h).bind fun r => E_ (d + 1) mX14_isSo 13 ls (xpu r.1 [.int x2]) r.2 := e_vir dX14_isSo_10 rfl rfl rfl rfl rfl rfl (Nat.le_of_ble_eq_true rfl) (Nat.le_of_ble_eq_true rfl) ht
theorem wX14_isSo_13 (ht : oT h a = 9) : E_ d mX14_isSo 13 ls (.ref a :: st) h = E_ d mX14_isSo 16 ls (.int (oI h a 0) :: st) h := e_getI0 dX14_isSo_13 rfl rfl ht
theorem wX14_isSo_16 : E_ d mX14_isSo 16 ls (.int y :: .int x :: st) h = if x = y then E_ d mX14_isSo 48 ls st h else E_ d mX14_isSo 19 ls st h := e_ieq dX14_isSo_16 rfl rfl
theorem wX14_isSo_19 : E_ d mX14_isSo 19 [s0, .val (.ref a), s2, s3] st h = E_ d mX14_isSo 20 [s0, .val (.ref a), s2, s3] (.ref a :: st) h := e_go dX14_isSo_19 rfl rfl
theorem wX14_isSo_20 (ht : oT h a = 5) : E_ d mX14_isSo 20 ls (.ref a :: st) h = E_ d mX14_isSo 23 ls (va_rf (oR h a 0) :: st) h := e_getR0 dX14_isSo_20 rfl rfl ht
theorem wX14_isSo_23 : E_ d mX14_isSo 23 [s0, s1, s2, .val (.int x)] st h = E_ d mX14_isSo 24 [s0, s1, s2, .val (.int x)] (.int x :: st) h := e_go dX14_isSo_23 rfl rfl
theorem wX14_isSo_24 (ht : oT h a = 40) (hi : xix x (oN h a) = true) : E_ d mX14_isSo 24 ls (.int x :: .ref a :: st) h = E_ d mX14_isSo 25 ls (.int (oI h a x.toNatClampNeg) :: st) h := e_iald dX14_isSo_24 rfl ht hi
theorem wX14_isSo_25 : E_ d mX14_isSo 25 [s0, .val (.ref a), s2, s3] st h = E_ d mX14_isSo 26 [s0, .val (.ref a), s2, s3] (.ref a :: st) h := e_go dX14_isSo_25 rfl rfl
theorem wX14_isSo_26 (ht : oT h a = 5) : E_ d mX14_isSo 26 ls (.ref a :: st) h = E_ d mX14_isSo 29 ls (va_rf (oR h a 0) :: st) h := e_getR0 dX14_isSo_26 rfl rfl ht
theorem wX14_isSo_29 : E_ d mX14_isSo 29 [s0, s1, .val (.int x), s3] st h = E_ d mX14_isSo 30 [s0, s1, .val (.int x), s3] (.int x :: st) h := e_go dX14_isSo_29 rfl rfl
theorem wX14_isSo_30 (ht : oT h a = 40) (hi : xix x (oN h a) = true) : E_ d mX14_isSo 30 ls (.int x :: .ref a :: st) h = E_ d mX14_isSo 31 ls (.int (oI h a x.toNatClampNeg) :: st) h := e_iald dX14_isSo_30 rfl ht hi
theorem wX14_isSo_31 : E_ d mX14_isSo 31 ls (.int y :: .int x :: st) h = if x < y then E_ d mX14_isSo 34 ls st h else E_ d mX14_isSo 48 ls st h := e_ige dX14_isSo_31 rfl rfl
theorem wX14_isSo_34 : E_ d mX14_isSo 34 [s0, .val (.ref a), s2, s3] st h = E_ d mX14_isSo 35 [s0, .val (.ref a), s2, s3] (.ref a :: st) h := e_go dX14_isSo_34 rfl rfl
theorem wX14_isSo_35 (ht : oT h a = 5) : E_ d mX14_isSo 35 ls (.ref a :: st) h = E_ d mX14_isSo 38 ls (va_rf (oR h a 2) :: st) h := e_getR0 dX14_isSo_35 rfl rfl ht
theorem wX14_isSo_38 : E_ d mX14_isSo 38 [s0, s1, s2, .val (.int x)] st h = E_ d mX14_isSo 39 [s0, s1, s2, .val (.int x)] (.int x :: st) h := e_go dX14_isSo_38 rfl rfl
theorem wX14_isSo_39 (ht : oT h a = 40) (hi : xix x (oN h a) = true) : E_ d mX14_isSo 39 ls (.int x :: .ref a :: st) h = E_ d mX14_isSo 40 ls (.int (oI h a x.toNatClampNeg) :: st) h := e_iald dX14_isSo_39 rfl ht hi
theorem wX14_isSo_40 : E_ d mX14_isSo 40 ls st h = E_ d mX14_isSo 41 ls (.int (nI 1) :: st) h := e_iconst dX14_isSo_40 kiconst_1 rfl
theorem wX14_isSo_41 : E_ d mX14_isSo 41 ls (.int y :: .int x :: st) h = if x = y then E_ d mX14_isSo 44 ls st h else E_ d mX14_isSo 48 ls st h := e_ine dX14_isSo_41 rfl rfl
theorem wX14_isSo_44 : E_ d mX14_isSo 44 ls st h = E_ d mX14_isSo 45 ls (.int (nI 1) :: st) h := e_iconst dX14_isSo_44 kiconst_1 rfl
theorem wX14_isSo_45 : E_ d mX14_isSo 45 ls st h = E_ d mX14_isSo 49 ls st h := e_gt dX14_isSo_45 rfl
theorem wX14_isSo_48 : E_ d mX14_isSo 48 ls st h = E_ d mX14_isSo 49 ls (.int (nI 0) :: st) h := e_iconst dX14_isSo_48 kiconst_0 rfl
theorem wX14_isSo_49 (hx : x = 0 ∨ x = 1) : E_ d mX14_isSo 49 ls [.int x] h = some (some (.int x), h) := e_rtZ dX14_isSo_49 rfl hx
/-! FootOut$OnRoad.<init> -/
theorem wX15_init_0 : E_ d mX15_init 0 [.val (.ref a)] st h = E_ d mX15_init 1 [.val (.ref a)] (.ref a :: st) h := e_go dX15_init_0 rfl rfl
theorem wX15_init_1 : E_ (d + 1) mX15_init 1 ls [.ref a] h = (C_ d mX8_init [.ref a] h).bind fun r => E_ (d + 1) mX15_init 4 ls (xpu r.1 []) r.2 := e_call dX15_init_1 rfl rfl
theorem wX15_init_4 : E_ d mX15_init 4 ls [] h = some (none, h) := e_rt dX15_init_4 rfl rfl
/-! FootOut$OnRoad.is -/
theorem wX15_is_0 : E_ d mX15_is 0 [s0, .val (.ref a), s2] st h = E_ d mX15_is 1 [s0, .val (.ref a), s2] (.ref a :: st) h := e_go dX15_is_0 rfl rfl
theorem wX15_is_1 (ht : oT h a = 5) : E_ d mX15_is 1 ls (.ref a :: st) h = E_ d mX15_is 4 ls (.int (oI h a 6) :: st) h := e_getI dX15_is_1 rfl rfl ht
theorem wX15_is_4 : E_ d mX15_is 4 ls (.int x :: st) h = if 0 < x then E_ d mX15_is 14 ls st h else E_ d mX15_is 7 ls st h := e_zgt dX15_is_4 rfl rfl
theorem wX15_is_7 : E_ d mX15_is 7 [s0, .val (.ref a), s2] st h = E_ d mX15_is 8 [s0, .val (.ref a), s2] (.ref a :: st) h := e_go dX15_is_7 rfl rfl
theorem wX15_is_8 (ht : oT h a = 5) : E_ d mX15_is 8 ls (.ref a :: st) h = E_ d mX15_is 11 ls (.int (oI h a 7) :: st) h := e_getI dX15_is_8 rfl rfl ht
theorem wX15_is_11 : E_ d mX15_is 11 ls (.int x :: st) h = if 0 < x then E_ d mX15_is 14 ls st h else E_ d mX15_is 18 ls st h := e_zle dX15_is_11 rfl rfl
theorem wX15_is_14 : E_ d mX15_is 14 ls st h = E_ d mX15_is 15 ls (.int (nI 1) :: st) h := e_iconst dX15_is_14 kiconst_1 rfl
theorem wX15_is_15 : E_ d mX15_is 15 ls st h = E_ d mX15_is 19 ls st h := e_gt dX15_is_15 rfl
theorem wX15_is_18 : E_ d mX15_is 18 ls st h = E_ d mX15_is 19 ls (.int (nI 0) :: st) h := e_iconst dX15_is_18 kiconst_0 rfl
theorem wX15_is_19 (hx : x = 0 ∨ x = 1) : E_ d mX15_is 19 ls [.int x] h = some (some (.int x), h) := e_rtZ dX15_is_19 rfl hx
/-! FootOut$Own.<init> -/
theorem wX16_init_0 : E_ d mX16_init 0 [.val (.ref a), s1, s2] st h = E_ d mX16_init 1 [.val (.ref a), s1, s2] (.ref a :: st) h := e_go dX16_init_0 rfl rfl
theorem wX16_init_1 : E_ (d + 1) mX16_init 1 ls [.ref a] h = (C_ d mX8_init [.ref a] h).bind fun r => E_ (d + 1) mX16_init 4 ls (xpu r.1 []) r.2 := e_call dX16_init_1 rfl rfl
theorem wX16_init_4 : E_ d mX16_init 4 [.val (.ref a), s1, s2] st h = E_ d mX16_init 5 [.val (.ref a), s1, s2] (.ref a :: st) h := e_go dX16_init_4 rfl rfl
theorem wX16_init_5 : E_ d mX16_init 5 [s0, .val (.int x), s2] st h = E_ d mX16_init 6 [s0, .val (.int x), s2] (.int x :: st) h := e_go dX16_init_5 rfl rfl
theorem wX16_init_6 (ht : oT h a = 16) : E_ d mX16_init 6 ls (.int x :: .ref a :: st) h = E_ d mX16_init 9 ls st (pI h a (va_up (oI h a) 0 x)) := e_putI0 dX16_init_6 rfl rfl rfl ht
theorem wX16_init_9 : E_ d mX16_init 9 [.val (.ref a), s1, s2] st h = E_ d mX16_init 10 [.val (.ref a), s1, s2] (.ref a :: st) h := e_go dX16_init_9 rfl rfl
theorem wX16_init_10 : E_ d mX16_init 10 [s0, s1, .val (.int x)] st h = E_ d mX16_init 11 [s0, s1, .val (.int x)] (.int x :: st) h := e_go dX16_init_10 rfl rfl
theorem wX16_init_11 (ht : oT h a = 16) : E_ d mX16_init 11 ls (.int x :: .ref a :: st) h = E_ d mX16_init 14 ls st (pI h a (va_up (oI h a) 1 x)) := e_putI0 dX16_init_11 rfl rfl rfl ht
theorem wX16_init_14 : E_ d mX16_init 14 ls [] h = some (none, h) := e_rt dX16_init_14 rfl rfl
/-! FootOut$Own.is -/
theorem wX16_is_0 : E_ d mX16_is 0 [.val (.ref a), s1, s2] st h = E_ d mX16_is 1 [.val (.ref a), s1, s2] (.ref a :: st) h := e_go dX16_is_0 rfl rfl
theorem wX16_is_1 (ht : oT h a = 16) : E_ d mX16_is 1 ls (.ref a :: st) h = E_ d mX16_is 4 ls (.int (oI h a 0) :: st) h := e_getI0 dX16_is_1 rfl rfl ht
theorem wX16_is_4 : E_ d mX16_is 4 ls (.int x :: st) h = if x = 0 then E_ d mX16_is 7 ls st h else E_ d mX16_is 26 ls st h := e_zne dX16_is_4 rfl rfl
theorem wX16_is_7 : E_ d mX16_is 7 [s0, .val (.ref a), s2] st h = E_ d mX16_is 8 [s0, .val (.ref a), s2] (.ref a :: st) h := e_go dX16_is_7 rfl rfl
theorem wX16_is_8 (ht : oT h a = 5) : E_ d mX16_is 8 ls (.ref a :: st) h = E_ d mX16_is 11 ls (va_rf (oR h a 0) :: st) h := e_getR0 dX16_is_8 rfl rfl ht
theorem wX16_is_11 : E_ d mX16_is 11 [s0, s1, .val (.int x)] st h = E_ d mX16_is 12 [s0, s1, .val (.int x)] (.int x :: st) h := e_go dX16_is_11 rfl rfl
theorem wX16_is_12 (ht : oT h a = 40) (hi : xix x (oN h a) = true) : E_ d mX16_is 12 ls (.int x :: .ref a :: st) h = E_ d mX16_is 13 ls (.int (oI h a x.toNatClampNeg) :: st) h := e_iald dX16_is_12 rfl ht hi
theorem wX16_is_13 : E_ d mX16_is 13 [.val (.ref a), s1, s2] st h = E_ d mX16_is 14 [.val (.ref a), s1, s2] (.ref a :: st) h := e_go dX16_is_13 rfl rfl
theorem wX16_is_14 (ht : oT h a = 16) : E_ d mX16_is 14 ls (.ref a :: st) h = E_ d mX16_is 17 ls (.int (oI h a 1) :: st) h := e_getI0 dX16_is_14 rfl rfl ht
theorem wX16_is_17 : E_ d mX16_is 17 ls (.int y :: .int x :: st) h = if x < y then E_ d mX16_is 20 ls st h else E_ d mX16_is 24 ls st h := e_ige dX16_is_17 rfl rfl
theorem wX16_is_20 : E_ d mX16_is 20 ls st h = E_ d mX16_is 21 ls (.int (nI 1) :: st) h := e_iconst dX16_is_20 kiconst_1 rfl
theorem wX16_is_21 : E_ d mX16_is 21 ls st h = E_ d mX16_is 25 ls st h := e_gt dX16_is_21 rfl
theorem wX16_is_24 : E_ d mX16_is 24 ls st h = E_ d mX16_is 25 ls (.int (nI 0) :: st) h := e_iconst dX16_is_24 kiconst_0 rfl
theorem wX16_is_25 (hx : x = 0 ∨ x = 1) : E_ d mX16_is 25 ls [.int x] h = some (some (.int x), h) := e_rtZ dX16_is_25 rfl hx
theorem wX16_is_26 : E_ d mX16_is 26 [.val (.ref a), s1, s2] st h = E_ d mX16_is 27 [.val (.ref a), s1, s2] (.ref a :: st) h := e_go dX16_is_26 rfl rfl
theorem wX16_is_27 (ht : oT h a = 16) : E_ d mX16_is 27 ls (.ref a :: st) h = E_ d mX16_is 30 ls (.int (oI h a 0) :: st) h := e_getI0 dX16_is_27 rfl rfl ht
theorem wX16_is_30 : E_ d mX16_is 30 ls st h = E_ d mX16_is 31 ls (.int (nI 1) :: st) h := e_iconst dX16_is_30 kiconst_1 rfl
theorem wX16_is_31 : E_ d mX16_is 31 ls (.int y :: .int x :: st) h = if x = y then E_ d mX16_is 34 ls st h else E_ d mX16_is 53 ls st h := e_ine dX16_is_31 rfl rfl
theorem wX16_is_34 : E_ d mX16_is 34 [s0, .val (.ref a), s2] st h = E_ d mX16_is 35 [s0, .val (.ref a), s2] (.ref a :: st) h := e_go dX16_is_34 rfl rfl
theorem wX16_is_35 (ht : oT h a = 5) : E_ d mX16_is 35 ls (.ref a :: st) h = E_ d mX16_is 38 ls (va_rf (oR h a 1) :: st) h := e_getR0 dX16_is_35 rfl rfl ht
theorem wX16_is_38 : E_ d mX16_is 38 [s0, s1, .val (.int x)] st h = E_ d mX16_is 39 [s0, s1, .val (.int x)] (.int x :: st) h := e_go dX16_is_38 rfl rfl
theorem wX16_is_39 (ht : oT h a = 40) (hi : xix x (oN h a) = true) : E_ d mX16_is 39 ls (.int x :: .ref a :: st) h = E_ d mX16_is 40 ls (.int (oI h a x.toNatClampNeg) :: st) h := e_iald dX16_is_39 rfl ht hi
theorem wX16_is_40 : E_ d mX16_is 40 [.val (.ref a), s1, s2] st h = E_ d mX16_is 41 [.val (.ref a), s1, s2] (.ref a :: st) h := e_go dX16_is_40 rfl rfl
theorem wX16_is_41 (ht : oT h a = 16) : E_ d mX16_is 41 ls (.ref a :: st) h = E_ d mX16_is 44 ls (.int (oI h a 1) :: st) h := e_getI0 dX16_is_41 rfl rfl ht
theorem wX16_is_44 : E_ d mX16_is 44 ls (.int y :: .int x :: st) h = if x < y then E_ d mX16_is 51 ls st h else E_ d mX16_is 47 ls st h := e_ilt dX16_is_44 rfl rfl
theorem wX16_is_47 : E_ d mX16_is 47 ls st h = E_ d mX16_is 48 ls (.int (nI 1) :: st) h := e_iconst dX16_is_47 kiconst_1 rfl
theorem wX16_is_48 : E_ d mX16_is 48 ls st h = E_ d mX16_is 52 ls st h := e_gt dX16_is_48 rfl
theorem wX16_is_51 : E_ d mX16_is 51 ls st h = E_ d mX16_is 52 ls (.int (nI 0) :: st) h := e_iconst dX16_is_51 kiconst_0 rfl
theorem wX16_is_52 (hx : x = 0 ∨ x = 1) : E_ d mX16_is 52 ls [.int x] h = some (some (.int x), h) := e_rtZ dX16_is_52 rfl hx
theorem wX16_is_53 : E_ d mX16_is 53 [.val (.ref a), s1, s2] st h = E_ d mX16_is 54 [.val (.ref a), s1, s2] (.ref a :: st) h := e_go dX16_is_53 rfl rfl
theorem wX16_is_54 (ht : oT h a = 16) : E_ d mX16_is 54 ls (.ref a :: st) h = E_ d mX16_is 57 ls (.int (oI h a 0) :: st) h := e_getI0 dX16_is_54 rfl rfl ht
theorem wX16_is_57 : E_ d mX16_is 57 ls st h = E_ d mX16_is 58 ls (.int (nI 2) :: st) h := e_iconst dX16_is_57 kiconst_2 rfl
theorem wX16_is_58 : E_ d mX16_is 58 ls (.int y :: .int x :: st) h = if x = y then E_ d mX16_is 61 ls st h else E_ d mX16_is 72 ls st h := e_ine dX16_is_58 rfl rfl
theorem wX16_is_61 : E_ d mX16_is 61 [s0, .val (.ref a), s2] st h = E_ d mX16_is 62 [s0, .val (.ref a), s2] (.ref a :: st) h := e_go dX16_is_61 rfl rfl
theorem wX16_is_62 : E_ d mX16_is 62 [s0, s1, .val (.int x)] st h = E_ d mX16_is 63 [s0, s1, .val (.int x)] (.int x :: st) h := e_go dX16_is_62 rfl rfl
theorem wX16_is_63 (ht : oT h a = 5) : E_ (d + 1) mX16_is 63 ls [.int x1, .ref a] h = (C_ d mX3_car [.ref a, .int x1] h).bind fun r => E_ (d + 1) mX16_is 66 ls (xpu r.1 []) r.2 := e_vir dX16_is_63 rfl rfl rfl rfl rfl rfl (Nat.le_of_ble_eq_true rfl) (Nat.le_of_ble_eq_true rfl) ht
theorem wX16_is_66 (ht : oT h a = 9) : E_ d mX16_is 66 ls (.ref a :: st) h = E_ d mX16_is 69 ls (.int (oI h a 0) :: st) h := e_getI0 dX16_is_66 rfl rfl ht
theorem wX16_is_69 : E_ d mX16_is 69 ls st h = E_ d mX16_is 80 ls st h := e_gt dX16_is_69 rfl
theorem wX16_is_72 : E_ d mX16_is 72 [s0, .val (.ref a), s2] st h = E_ d mX16_is 73 [s0, .val (.ref a), s2] (.ref a :: st) h := e_go dX16_is_72 rfl rfl
theorem wX16_is_73 : E_ d mX16_is 73 [s0, s1, .val (.int x)] st h = E_ d mX16_is 74 [s0, s1, .val (.int x)] (.int x :: st) h := e_go dX16_is_73 rfl rfl
theorem wX16_is_74 (ht : oT h a = 5) : E_ (d + 1) mX16_is 74 ls [.int x1, .ref a] h = (C_ d mX3_car [.ref a, .int x1] h).bind fun r => E_ (d + 1) mX16_is 77 ls (xpu r.1 []) r.2 := e_vir dX16_is_74 rfl rfl rfl rfl rfl rfl (Nat.le_of_ble_eq_true rfl) (Nat.le_of_ble_eq_true rfl) ht
theorem wX16_is_77 (ht : oT h a = 9) : E_ d mX16_is 77 ls (.ref a :: st) h = E_ d mX16_is 80 ls (.int (oI h a 3) :: st) h := e_getI0 dX16_is_77 rfl rfl ht
theorem wX16_is_80 : E_ d mX16_is 80 [.val (.ref a), s1, s2] st h = E_ d mX16_is 81 [.val (.ref a), s1, s2] (.ref a :: st) h := e_go dX16_is_80 rfl rfl
theorem wX16_is_81 (ht : oT h a = 16) : E_ d mX16_is 81 ls (.ref a :: st) h = E_ d mX16_is 84 ls (.int (oI h a 1) :: st) h := e_getI0 dX16_is_81 rfl rfl ht
theorem wX16_is_84 : E_ d mX16_is 84 ls (.int y :: .int x :: st) h = if x = y then E_ d mX16_is 87 ls st h else E_ d mX16_is 91 ls st h := e_ine dX16_is_84 rfl rfl
theorem wX16_is_87 : E_ d mX16_is 87 ls st h = E_ d mX16_is 88 ls (.int (nI 1) :: st) h := e_iconst dX16_is_87 kiconst_1 rfl
theorem wX16_is_88 : E_ d mX16_is 88 ls st h = E_ d mX16_is 92 ls st h := e_gt dX16_is_88 rfl
theorem wX16_is_91 : E_ d mX16_is 91 ls st h = E_ d mX16_is 92 ls (.int (nI 0) :: st) h := e_iconst dX16_is_91 kiconst_0 rfl
theorem wX16_is_92 (hx : x = 0 ∨ x = 1) : E_ d mX16_is 92 ls [.int x] h = some (some (.int x), h) := e_rtZ dX16_is_92 rfl hx
/-! FootOut$Both.<init> -/
theorem wX17_init_0 : E_ d mX17_init 0 [.val (.ref a), s1, s2, s3] st h = E_ d mX17_init 1 [.val (.ref a), s1, s2, s3] (.ref a :: st) h := e_go dX17_init_0 rfl rfl
theorem wX17_init_0q : E_ d mX17_init 0 [.val (va_rf q), s1, s2, s3] st h = E_ d mX17_init 1 [.val (va_rf q), s1, s2, s3] (va_rf q :: st) h := by cases q <;> exact e_go dX17_init_0 rfl rfl
theorem wX17_init_0n : E_ d mX17_init 0 [.val .null, s1, s2, s3] st h = E_ d mX17_init 1 [.val .null, s1, s2, s3] (.null :: st) h := e_go dX17_init_0 rfl rfl
theorem wX17_init_1 : E_ (d + 1) mX17_init 1 ls [.ref a] h = (C_ d mX8_init [.ref a] h).bind fun r => E_ (d + 1) mX17_init 4 ls (xpu r.1 []) r.2 := e_call dX17_init_1 rfl rfl
theorem wX17_init_4 : E_ d mX17_init 4 [.val (.ref a), s1, s2, s3] st h = E_ d mX17_init 5 [.val (.ref a), s1, s2, s3] (.ref a :: st) h := e_go dX17_init_4 rfl rfl
theorem wX17_init_4q : E_ d mX17_init 4 [.val (va_rf q), s1, s2, s3] st h = E_ d mX17_init 5 [.val (va_rf q), s1, s2, s3] (va_rf q :: st) h := by cases q <;> exact e_go dX17_init_4 rfl rfl
theorem wX17_init_4n : E_ d mX17_init 4 [.val .null, s1, s2, s3] st h = E_ d mX17_init 5 [.val .null, s1, s2, s3] (.null :: st) h := e_go dX17_init_4 rfl rfl
theorem wX17_init_5 : E_ d mX17_init 5 [s0, .val (.int x), s2, s3] st h = E_ d mX17_init 6 [s0, .val (.int x), s2, s3] (.int x :: st) h := e_go dX17_init_5 rfl rfl
theorem wX17_init_6 (ht : oT h a = 17) (hx : x = 0 ∨ x = 1) : E_ d mX17_init 6 ls (.int x :: .ref a :: st) h = E_ d mX17_init 9 ls st (pI h a (va_up (oI h a) 0 x)) := e_putZ0 dX17_init_6 rfl rfl rfl ht hx
theorem wX17_init_9 : E_ d mX17_init 9 [.val (.ref a), s1, s2, s3] st h = E_ d mX17_init 10 [.val (.ref a), s1, s2, s3] (.ref a :: st) h := e_go dX17_init_9 rfl rfl
theorem wX17_init_9q : E_ d mX17_init 9 [.val (va_rf q), s1, s2, s3] st h = E_ d mX17_init 10 [.val (va_rf q), s1, s2, s3] (va_rf q :: st) h := by cases q <;> exact e_go dX17_init_9 rfl rfl
theorem wX17_init_9n : E_ d mX17_init 9 [.val .null, s1, s2, s3] st h = E_ d mX17_init 10 [.val .null, s1, s2, s3] (.null :: st) h := e_go dX17_init_9 rfl rfl
theorem wX17_init_10 : E_ d mX17_init 10 [s0, s1, .val (.ref a), s3] st h = E_ d mX17_init 11 [s0, s1, .val (.ref a), s3] (.ref a :: st) h := e_go dX17_init_10 rfl rfl
theorem wX17_init_10q : E_ d mX17_init 10 [s0, s1, .val (va_rf q), s3] st h = E_ d mX17_init 11 [s0, s1, .val (va_rf q), s3] (va_rf q :: st) h := by cases q <;> exact e_go dX17_init_10 rfl rfl
theorem wX17_init_10n : E_ d mX17_init 10 [s0, s1, .val .null, s3] st h = E_ d mX17_init 11 [s0, s1, .val .null, s3] (.null :: st) h := e_go dX17_init_10 rfl rfl
theorem wX17_init_11 (ht : oT h a = 17) : E_ d mX17_init 11 ls (.ref b :: .ref a :: st) h = E_ d mX17_init 14 ls st (pR h a (va_up (oR h a) 1 (some b))) := e_putR0 dX17_init_11 rfl rfl rfl ht
theorem wX17_init_11q (ht : oT h a = 17) : E_ d mX17_init 11 ls (va_rf q :: .ref a :: st) h = E_ d mX17_init 14 ls st (pR h a (va_up (oR h a) 1 q)) := e_putR0q dX17_init_11 rfl rfl rfl ht
theorem wX17_init_14 : E_ d mX17_init 14 [.val (.ref a), s1, s2, s3] st h = E_ d mX17_init 15 [.val (.ref a), s1, s2, s3] (.ref a :: st) h := e_go dX17_init_14 rfl rfl
theorem wX17_init_14q : E_ d mX17_init 14 [.val (va_rf q), s1, s2, s3] st h = E_ d mX17_init 15 [.val (va_rf q), s1, s2, s3] (va_rf q :: st) h := by cases q <;> exact e_go dX17_init_14 rfl rfl
theorem wX17_init_14n : E_ d mX17_init 14 [.val .null, s1, s2, s3] st h = E_ d mX17_init 15 [.val .null, s1, s2, s3] (.null :: st) h := e_go dX17_init_14 rfl rfl
theorem wX17_init_15 : E_ d mX17_init 15 [s0, s1, s2, .val (.ref a)] st h = E_ d mX17_init 16 [s0, s1, s2, .val (.ref a)] (.ref a :: st) h := e_go dX17_init_15 rfl rfl
theorem wX17_init_15q : E_ d mX17_init 15 [s0, s1, s2, .val (va_rf q)] st h = E_ d mX17_init 16 [s0, s1, s2, .val (va_rf q)] (va_rf q :: st) h := by cases q <;> exact e_go dX17_init_15 rfl rfl
theorem wX17_init_15n : E_ d mX17_init 15 [s0, s1, s2, .val .null] st h = E_ d mX17_init 16 [s0, s1, s2, .val .null] (.null :: st) h := e_go dX17_init_15 rfl rfl
theorem wX17_init_16 (ht : oT h a = 17) : E_ d mX17_init 16 ls (.ref b :: .ref a :: st) h = E_ d mX17_init 19 ls st (pR h a (va_up (oR h a) 2 (some b))) := e_putR0 dX17_init_16 rfl rfl rfl ht
theorem wX17_init_16q (ht : oT h a = 17) : E_ d mX17_init 16 ls (va_rf q :: .ref a :: st) h = E_ d mX17_init 19 ls st (pR h a (va_up (oR h a) 2 q)) := e_putR0q dX17_init_16 rfl rfl rfl ht
theorem wX17_init_19 : E_ d mX17_init 19 ls [] h = some (none, h) := e_rt dX17_init_19 rfl rfl
/-! FootOut$Both.is -/
theorem wX17_is_0 : E_ d mX17_is 0 [.val (.ref a), s1, s2] st h = E_ d mX17_is 1 [.val (.ref a), s1, s2] (.ref a :: st) h := e_go dX17_is_0 rfl rfl
theorem wX17_is_0q : E_ d mX17_is 0 [.val (va_rf q), s1, s2] st h = E_ d mX17_is 1 [.val (va_rf q), s1, s2] (va_rf q :: st) h := by cases q <;> exact e_go dX17_is_0 rfl rfl
theorem wX17_is_0n : E_ d mX17_is 0 [.val .null, s1, s2] st h = E_ d mX17_is 1 [.val .null, s1, s2] (.null :: st) h := e_go dX17_is_0 rfl rfl
theorem wX17_is_1 (ht : oT h a = 17) : E_ d mX17_is 1 ls (.ref a :: st) h = E_ d mX17_is 4 ls (.int (oI h a 0) :: st) h := e_getZ0 dX17_is_1 rfl rfl ht
theorem wX17_is_4 : E_ d mX17_is 4 ls (.int x :: st) h = if x = 0 then E_ d mX17_is 39 ls st h else E_ d mX17_is 7 ls st h := e_zeq dX17_is_4 rfl rfl
theorem wX17_is_7 : E_ d mX17_is 7 [.val (.ref a), s1, s2] st h = E_ d mX17_is 8 [.val (.ref a), s1, s2] (.ref a :: st) h := e_go dX17_is_7 rfl rfl
theorem wX17_is_7q : E_ d mX17_is 7 [.val (va_rf q), s1, s2] st h = E_ d mX17_is 8 [.val (va_rf q), s1, s2] (va_rf q :: st) h := by cases q <;> exact e_go dX17_is_7 rfl rfl
theorem wX17_is_7n : E_ d mX17_is 7 [.val .null, s1, s2] st h = E_ d mX17_is 8 [.val .null, s1, s2] (.null :: st) h := e_go dX17_is_7 rfl rfl
theorem wX17_is_8 (ht : oT h a = 17) : E_ d mX17_is 8 ls (.ref a :: st) h = E_ d mX17_is 11 ls (va_rf (oR h a 1) :: st) h := e_getR0 dX17_is_8 rfl rfl ht
theorem wX17_is_11 : E_ d mX17_is 11 [s0, .val (.ref a), s2] st h = E_ d mX17_is 12 [s0, .val (.ref a), s2] (.ref a :: st) h := e_go dX17_is_11 rfl rfl
theorem wX17_is_11q : E_ d mX17_is 11 [s0, .val (va_rf q), s2] st h = E_ d mX17_is 12 [s0, .val (va_rf q), s2] (va_rf q :: st) h := by cases q <;> exact e_go dX17_is_11 rfl rfl
theorem wX17_is_11n : E_ d mX17_is 11 [s0, .val .null, s2] st h = E_ d mX17_is 12 [s0, .val .null, s2] (.null :: st) h := e_go dX17_is_11 rfl rfl
theorem wX17_is_12 : E_ d mX17_is 12 [s0, s1, .val (.int x)] st h = E_ d mX17_is 13 [s0, s1, .val (.int x)] (.int x :: st) h := e_go dX17_is_12 rfl rfl
theorem wX17_is_13t10 (ht : oT h a = 10) : E_ (d + 1) mX17_is 13 ls [.int x1, .ref r1, .ref a] h = (C_ d mX9_is [.ref a, .ref r1, .int x1] h).bind fun r => E_ (d + 1) mX17_is 16 ls (xpu r.1 []) r.2 := e_vir dX17_is_13 rfl rfl rfl rfl rfl rfl (Nat.le_of_ble_eq_true rfl) (Nat.le_of_ble_eq_true rfl) ht
theorem wX17_is_13t11 (ht : oT h a = 11) : E_ (d + 1) mX17_is 13 ls [.int x1, .ref r1, .ref a] h = (C_ d mX10_is [.ref a, .ref r1, .int x1] h).bind fun r => E_ (d + 1) mX17_is 16 ls (xpu r.1 []) r.2 := e_vir dX17_is_13 rfl rfl rfl rfl rfl rfl (Nat.le_of_ble_eq_true rfl) (Nat.le_of_ble_eq_true rfl) ht
theorem wX17_is_13t12 (ht : oT h a = 12) : E_ (d + 1) mX17_is 13 ls [.int x1, .ref r1, .ref a] h = (C_ d mX11_is [.ref a, .ref r1, .int x1] h).bind fun r => E_ (d + 1) mX17_is 16 ls (xpu r.1 []) r.2 := e_vir dX17_is_13 rfl rfl rfl rfl rfl rfl (Nat.le_of_ble_eq_true rfl) (Nat.le_of_ble_eq_true rfl) ht
theorem wX17_is_13t13 (ht : oT h a = 13) : E_ (d + 1) mX17_is 13 ls [.int x1, .ref r1, .ref a] h = (C_ d mX11_is [.ref a, .ref r1, .int x1] h).bind fun r => E_ (d + 1) mX17_is 16 ls (xpu r.1 []) r.2 := e_vir dX17_is_13 rfl rfl rfl rfl rfl rfl (Nat.le_of_ble_eq_true rfl) (Nat.le_of_ble_eq_true rfl) ht
theorem wX17_is_13t14 (ht : oT h a = 14) : E_ (d + 1) mX17_is 13 ls [.int x1, .ref r1, .ref a] h = (C_ d mX11_is [.ref a, .ref r1, .int x1] h).bind fun r => E_ (d + 1) mX17_is 16 ls (xpu r.1 []) r.2 := e_vir dX17_is_13 rfl rfl rfl rfl rfl rfl (Nat.le_of_ble_eq_true rfl) (Nat.le_of_ble_eq_true rfl) ht
theorem wX17_is_13t15 (ht : oT h a = 15) : E_ (d + 1) mX17_is 13 ls [.int x1, .ref r1, .ref a] h = (C_ d mX15_is [.ref a, .ref r1, .int x1] h).bind fun r => E_ (d + 1) mX17_is 16 ls (xpu r.1 []) r.2 := e_vir dX17_is_13 rfl rfl rfl rfl rfl rfl (Nat.le_of_ble_eq_true rfl) (Nat.le_of_ble_eq_true rfl) ht
theorem wX17_is_13t16 (ht : oT h a = 16) : E_ (d + 1) mX17_is 13 ls [.int x1, .ref r1, .ref a] h = (C_ d mX16_is [.ref a, .ref r1, .int x1] h).bind fun r => E_ (d + 1) mX17_is 16 ls (xpu r.1 []) r.2 := e_vir dX17_is_13 rfl rfl rfl rfl rfl rfl (Nat.le_of_ble_eq_true rfl) (Nat.le_of_ble_eq_true rfl) ht
theorem wX17_is_13t17 (ht : oT h a = 17) : E_ (d + 1) mX17_is 13 ls [.int x1, .ref r1, .ref a] h = (C_ d mX17_is [.ref a, .ref r1, .int x1] h).bind fun r => E_ (d + 1) mX17_is 16 ls (xpu r.1 []) r.2 := e_vir dX17_is_13 rfl rfl rfl rfl rfl rfl (Nat.le_of_ble_eq_true rfl) (Nat.le_of_ble_eq_true rfl) ht
theorem wX17_is_16 : E_ d mX17_is 16 ls (.int x :: st) h = if x = 0 then E_ d mX17_is 35 ls st h else E_ d mX17_is 19 ls st h := e_zeq dX17_is_16 rfl rfl
theorem wX17_is_19 : E_ d mX17_is 19 [.val (.ref a), s1, s2] st h = E_ d mX17_is 20 [.val (.ref a), s1, s2] (.ref a :: st) h := e_go dX17_is_19 rfl rfl
theorem wX17_is_19q : E_ d mX17_is 19 [.val (va_rf q), s1, s2] st h = E_ d mX17_is 20 [.val (va_rf q), s1, s2] (va_rf q :: st) h := by cases q <;> exact e_go dX17_is_19 rfl rfl
theorem wX17_is_19n : E_ d mX17_is 19 [.val .null, s1, s2] st h = E_ d mX17_is 20 [.val .null, s1, s2] (.null :: st) h := e_go dX17_is_19 rfl rfl
theorem wX17_is_20 (ht : oT h a = 17) : E_ d mX17_is 20 ls (.ref a :: st) h = E_ d mX17_is 23 ls (va_rf (oR h a 2) :: st) h := e_getR0 dX17_is_20 rfl rfl ht
theorem wX17_is_23 : E_ d mX17_is 23 [s0, .val (.ref a), s2] st h = E_ d mX17_is 24 [s0, .val (.ref a), s2] (.ref a :: st) h := e_go dX17_is_23 rfl rfl
theorem wX17_is_23q : E_ d mX17_is 23 [s0, .val (va_rf q), s2] st h = E_ d mX17_is 24 [s0, .val (va_rf q), s2] (va_rf q :: st) h := by cases q <;> exact e_go dX17_is_23 rfl rfl
theorem wX17_is_23n : E_ d mX17_is 23 [s0, .val .null, s2] st h = E_ d mX17_is 24 [s0, .val .null, s2] (.null :: st) h := e_go dX17_is_23 rfl rfl
theorem wX17_is_24 : E_ d mX17_is 24 [s0, s1, .val (.int x)] st h = E_ d mX17_is 25 [s0, s1, .val (.int x)] (.int x :: st) h := e_go dX17_is_24 rfl rfl
theorem wX17_is_25t10 (ht : oT h a = 10) : E_ (d + 1) mX17_is 25 ls [.int x1, .ref r1, .ref a] h = (C_ d mX9_is [.ref a, .ref r1, .int x1] h).bind fun r => E_ (d + 1) mX17_is 28 ls (xpu r.1 []) r.2 := e_vir dX17_is_25 rfl rfl rfl rfl rfl rfl (Nat.le_of_ble_eq_true rfl) (Nat.le_of_ble_eq_true rfl) ht
theorem wX17_is_25t11 (ht : oT h a = 11) : E_ (d + 1) mX17_is 25 ls [.int x1, .ref r1, .ref a] h = (C_ d mX10_is [.ref a, .ref r1, .int x1] h).bind fun r => E_ (d + 1) mX17_is 28 ls (xpu r.1 []) r.2 := e_vir dX17_is_25 rfl rfl rfl rfl rfl rfl (Nat.le_of_ble_eq_true rfl) (Nat.le_of_ble_eq_true rfl) ht
theorem wX17_is_25t12 (ht : oT h a = 12) : E_ (d + 1) mX17_is 25 ls [.int x1, .ref r1, .ref a] h = (C_ d mX11_is [.ref a, .ref r1, .int x1] h).bind fun r => E_ (d + 1) mX17_is 28 ls (xpu r.1 []) r.2 := e_vir dX17_is_25 rfl rfl rfl rfl rfl rfl (Nat.le_of_ble_eq_true rfl) (Nat.le_of_ble_eq_true rfl) ht
theorem wX17_is_25t13 (ht : oT h a = 13) : E_ (d + 1) mX17_is 25 ls [.int x1, .ref r1, .ref a] h = (C_ d mX11_is [.ref a, .ref r1, .int x1] h).bind fun r => E_ (d + 1) mX17_is 28 ls (xpu r.1 []) r.2 := e_vir dX17_is_25 rfl rfl rfl rfl rfl rfl (Nat.le_of_ble_eq_true rfl) (Nat.le_of_ble_eq_true rfl) ht
theorem wX17_is_25t14 (ht : oT h a = 14) : E_ (d + 1) mX17_is 25 ls [.int x1, .ref r1, .ref a] h = (C_ d mX11_is [.ref a, .ref r1, .int x1] h).bind fun r => E_ (d + 1) mX17_is 28 ls (xpu r.1 []) r.2 := e_vir dX17_is_25 rfl rfl rfl rfl rfl rfl (Nat.le_of_ble_eq_true rfl) (Nat.le_of_ble_eq_true rfl) ht
theorem wX17_is_25t15 (ht : oT h a = 15) : E_ (d + 1) mX17_is 25 ls [.int x1, .ref r1, .ref a] h = (C_ d mX15_is [.ref a, .ref r1, .int x1] h).bind fun r => E_ (d + 1) mX17_is 28 ls (xpu r.1 []) r.2 := e_vir dX17_is_25 rfl rfl rfl rfl rfl rfl (Nat.le_of_ble_eq_true rfl) (Nat.le_of_ble_eq_true rfl) ht
theorem wX17_is_25t16 (ht : oT h a = 16) : E_ (d + 1) mX17_is 25 ls [.int x1, .ref r1, .ref a] h = (C_ d mX16_is [.ref a, .ref r1, .int x1] h).bind fun r => E_ (d + 1) mX17_is 28 ls (xpu r.1 []) r.2 := e_vir dX17_is_25 rfl rfl rfl rfl rfl rfl (Nat.le_of_ble_eq_true rfl) (Nat.le_of_ble_eq_true rfl) ht
theorem wX17_is_25t17 (ht : oT h a = 17) : E_ (d + 1) mX17_is 25 ls [.int x1, .ref r1, .ref a] h = (C_ d mX17_is [.ref a, .ref r1, .int x1] h).bind fun r => E_ (d + 1) mX17_is 28 ls (xpu r.1 []) r.2 := e_vir dX17_is_25 rfl rfl rfl rfl rfl rfl (Nat.le_of_ble_eq_true rfl) (Nat.le_of_ble_eq_true rfl) ht
theorem wX17_is_28 : E_ d mX17_is 28 ls (.int x :: st) h = if x = 0 then E_ d mX17_is 35 ls st h else E_ d mX17_is 31 ls st h := e_zeq dX17_is_28 rfl rfl
theorem wX17_is_31 : E_ d mX17_is 31 ls st h = E_ d mX17_is 32 ls (.int (nI 1) :: st) h := e_iconst dX17_is_31 kiconst_1 rfl
theorem wX17_is_32 : E_ d mX17_is 32 ls st h = E_ d mX17_is 68 ls st h := e_gt dX17_is_32 rfl
theorem wX17_is_35 : E_ d mX17_is 35 ls st h = E_ d mX17_is 36 ls (.int (nI 0) :: st) h := e_iconst dX17_is_35 kiconst_0 rfl
theorem wX17_is_36 : E_ d mX17_is 36 ls st h = E_ d mX17_is 68 ls st h := e_gt dX17_is_36 rfl
theorem wX17_is_39 : E_ d mX17_is 39 [.val (.ref a), s1, s2] st h = E_ d mX17_is 40 [.val (.ref a), s1, s2] (.ref a :: st) h := e_go dX17_is_39 rfl rfl
theorem wX17_is_39q : E_ d mX17_is 39 [.val (va_rf q), s1, s2] st h = E_ d mX17_is 40 [.val (va_rf q), s1, s2] (va_rf q :: st) h := by cases q <;> exact e_go dX17_is_39 rfl rfl
theorem wX17_is_39n : E_ d mX17_is 39 [.val .null, s1, s2] st h = E_ d mX17_is 40 [.val .null, s1, s2] (.null :: st) h := e_go dX17_is_39 rfl rfl
theorem wX17_is_40 (ht : oT h a = 17) : E_ d mX17_is 40 ls (.ref a :: st) h = E_ d mX17_is 43 ls (va_rf (oR h a 1) :: st) h := e_getR0 dX17_is_40 rfl rfl ht
theorem wX17_is_43 : E_ d mX17_is 43 [s0, .val (.ref a), s2] st h = E_ d mX17_is 44 [s0, .val (.ref a), s2] (.ref a :: st) h := e_go dX17_is_43 rfl rfl
theorem wX17_is_43q : E_ d mX17_is 43 [s0, .val (va_rf q), s2] st h = E_ d mX17_is 44 [s0, .val (va_rf q), s2] (va_rf q :: st) h := by cases q <;> exact e_go dX17_is_43 rfl rfl
theorem wX17_is_43n : E_ d mX17_is 43 [s0, .val .null, s2] st h = E_ d mX17_is 44 [s0, .val .null, s2] (.null :: st) h := e_go dX17_is_43 rfl rfl
theorem wX17_is_44 : E_ d mX17_is 44 [s0, s1, .val (.int x)] st h = E_ d mX17_is 45 [s0, s1, .val (.int x)] (.int x :: st) h := e_go dX17_is_44 rfl rfl
theorem wX17_is_45t10 (ht : oT h a = 10) : E_ (d + 1) mX17_is 45 ls [.int x1, .ref r1, .ref a] h = (C_ d mX9_is [.ref a, .ref r1, .int x1] h).bind fun r => E_ (d + 1) mX17_is 48 ls (xpu r.1 []) r.2 := e_vir dX17_is_45 rfl rfl rfl rfl rfl rfl (Nat.le_of_ble_eq_true rfl) (Nat.le_of_ble_eq_true rfl) ht
theorem wX17_is_45t11 (ht : oT h a = 11) : E_ (d + 1) mX17_is 45 ls [.int x1, .ref r1, .ref a] h = (C_ d mX10_is [.ref a, .ref r1, .int x1] h).bind fun r => E_ (d + 1) mX17_is 48 ls (xpu r.1 []) r.2 := e_vir dX17_is_45 rfl rfl rfl rfl rfl rfl (Nat.le_of_ble_eq_true rfl) (Nat.le_of_ble_eq_true rfl) ht
theorem wX17_is_45t12 (ht : oT h a = 12) : E_ (d + 1) mX17_is 45 ls [.int x1, .ref r1, .ref a] h = (C_ d mX11_is [.ref a, .ref r1, .int x1] h).bind fun r => E_ (d + 1) mX17_is 48 ls (xpu r.1 []) r.2 := e_vir dX17_is_45 rfl rfl rfl rfl rfl rfl (Nat.le_of_ble_eq_true rfl) (Nat.le_of_ble_eq_true rfl) ht
theorem wX17_is_45t13 (ht : oT h a = 13) : E_ (d + 1) mX17_is 45 ls [.int x1, .ref r1, .ref a] h = (C_ d mX11_is [.ref a, .ref r1, .int x1] h).bind fun r => E_ (d + 1) mX17_is 48 ls (xpu r.1 []) r.2 := e_vir dX17_is_45 rfl rfl rfl rfl rfl rfl (Nat.le_of_ble_eq_true rfl) (Nat.le_of_ble_eq_true rfl) ht
theorem wX17_is_45t14 (ht : oT h a = 14) : E_ (d + 1) mX17_is 45 ls [.int x1, .ref r1, .ref a] h = (C_ d mX11_is [.ref a, .ref r1, .int x1] h).bind fun r => E_ (d + 1) mX17_is 48 ls (xpu r.1 []) r.2 := e_vir dX17_is_45 rfl rfl rfl rfl rfl rfl (Nat.le_of_ble_eq_true rfl) (Nat.le_of_ble_eq_true rfl) ht
theorem wX17_is_45t15 (ht : oT h a = 15) : E_ (d + 1) mX17_is 45 ls [.int x1, .ref r1, .ref a] h = (C_ d mX15_is [.ref a, .ref r1, .int x1] h).bind fun r => E_ (d + 1) mX17_is 48 ls (xpu r.1 []) r.2 := e_vir dX17_is_45 rfl rfl rfl rfl rfl rfl (Nat.le_of_ble_eq_true rfl) (Nat.le_of_ble_eq_true rfl) ht
theorem wX17_is_45t16 (ht : oT h a = 16) : E_ (d + 1) mX17_is 45 ls [.int x1, .ref r1, .ref a] h = (C_ d mX16_is [.ref a, .ref r1, .int x1] h).bind fun r => E_ (d + 1) mX17_is 48 ls (xpu r.1 []) r.2 := e_vir dX17_is_45 rfl rfl rfl rfl rfl rfl (Nat.le_of_ble_eq_true rfl) (Nat.le_of_ble_eq_true rfl) ht
theorem wX17_is_45t17 (ht : oT h a = 17) : E_ (d + 1) mX17_is 45 ls [.int x1, .ref r1, .ref a] h = (C_ d mX17_is [.ref a, .ref r1, .int x1] h).bind fun r => E_ (d + 1) mX17_is 48 ls (xpu r.1 []) r.2 := e_vir dX17_is_45 rfl rfl rfl rfl rfl rfl (Nat.le_of_ble_eq_true rfl) (Nat.le_of_ble_eq_true rfl) ht
theorem wX17_is_48 : E_ d mX17_is 48 ls (.int x :: st) h = if x = 0 then E_ d mX17_is 51 ls st h else E_ d mX17_is 63 ls st h := e_zne dX17_is_48 rfl rfl
theorem wX17_is_51 : E_ d mX17_is 51 [.val (.ref a), s1, s2] st h = E_ d mX17_is 52 [.val (.ref a), s1, s2] (.ref a :: st) h := e_go dX17_is_51 rfl rfl
theorem wX17_is_51q : E_ d mX17_is 51 [.val (va_rf q), s1, s2] st h = E_ d mX17_is 52 [.val (va_rf q), s1, s2] (va_rf q :: st) h := by cases q <;> exact e_go dX17_is_51 rfl rfl
theorem wX17_is_51n : E_ d mX17_is 51 [.val .null, s1, s2] st h = E_ d mX17_is 52 [.val .null, s1, s2] (.null :: st) h := e_go dX17_is_51 rfl rfl
theorem wX17_is_52 (ht : oT h a = 17) : E_ d mX17_is 52 ls (.ref a :: st) h = E_ d mX17_is 55 ls (va_rf (oR h a 2) :: st) h := e_getR0 dX17_is_52 rfl rfl ht
theorem wX17_is_55 : E_ d mX17_is 55 [s0, .val (.ref a), s2] st h = E_ d mX17_is 56 [s0, .val (.ref a), s2] (.ref a :: st) h := e_go dX17_is_55 rfl rfl
theorem wX17_is_55q : E_ d mX17_is 55 [s0, .val (va_rf q), s2] st h = E_ d mX17_is 56 [s0, .val (va_rf q), s2] (va_rf q :: st) h := by cases q <;> exact e_go dX17_is_55 rfl rfl
theorem wX17_is_55n : E_ d mX17_is 55 [s0, .val .null, s2] st h = E_ d mX17_is 56 [s0, .val .null, s2] (.null :: st) h := e_go dX17_is_55 rfl rfl
theorem wX17_is_56 : E_ d mX17_is 56 [s0, s1, .val (.int x)] st h = E_ d mX17_is 57 [s0, s1, .val (.int x)] (.int x :: st) h := e_go dX17_is_56 rfl rfl
theorem wX17_is_57t10 (ht : oT h a = 10) : E_ (d + 1) mX17_is 57 ls [.int x1, .ref r1, .ref a] h = (C_ d mX9_is [.ref a, .ref r1, .int x1] h).bind fun r => E_ (d + 1) mX17_is 60 ls (xpu r.1 []) r.2 := e_vir dX17_is_57 rfl rfl rfl rfl rfl rfl (Nat.le_of_ble_eq_true rfl) (Nat.le_of_ble_eq_true rfl) ht
theorem wX17_is_57t11 (ht : oT h a = 11) : E_ (d + 1) mX17_is 57 ls [.int x1, .ref r1, .ref a] h = (C_ d mX10_is [.ref a, .ref r1, .int x1] h).bind fun r => E_ (d + 1) mX17_is 60 ls (xpu r.1 []) r.2 := e_vir dX17_is_57 rfl rfl rfl rfl rfl rfl (Nat.le_of_ble_eq_true rfl) (Nat.le_of_ble_eq_true rfl) ht
theorem wX17_is_57t12 (ht : oT h a = 12) : E_ (d + 1) mX17_is 57 ls [.int x1, .ref r1, .ref a] h = (C_ d mX11_is [.ref a, .ref r1, .int x1] h).bind fun r => E_ (d + 1) mX17_is 60 ls (xpu r.1 []) r.2 := e_vir dX17_is_57 rfl rfl rfl rfl rfl rfl (Nat.le_of_ble_eq_true rfl) (Nat.le_of_ble_eq_true rfl) ht
theorem wX17_is_57t13 (ht : oT h a = 13) : E_ (d + 1) mX17_is 57 ls [.int x1, .ref r1, .ref a] h = (C_ d mX11_is [.ref a, .ref r1, .int x1] h).bind fun r => E_ (d + 1) mX17_is 60 ls (xpu r.1 []) r.2 := e_vir dX17_is_57 rfl rfl rfl rfl rfl rfl (Nat.le_of_ble_eq_true rfl) (Nat.le_of_ble_eq_true rfl) ht
theorem wX17_is_57t14 (ht : oT h a = 14) : E_ (d + 1) mX17_is 57 ls [.int x1, .ref r1, .ref a] h = (C_ d mX11_is [.ref a, .ref r1, .int x1] h).bind fun r => E_ (d + 1) mX17_is 60 ls (xpu r.1 []) r.2 := e_vir dX17_is_57 rfl rfl rfl rfl rfl rfl (Nat.le_of_ble_eq_true rfl) (Nat.le_of_ble_eq_true rfl) ht
theorem wX17_is_57t15 (ht : oT h a = 15) : E_ (d + 1) mX17_is 57 ls [.int x1, .ref r1, .ref a] h = (C_ d mX15_is [.ref a, .ref r1, .int x1] h).bind fun r => E_ (d + 1) mX17_is 60 ls (xpu r.1 []) r.2 := e_vir dX17_is_57 rfl rfl rfl rfl rfl rfl (Nat.le_of_ble_eq_true rfl) (Nat.le_of_ble_eq_true rfl) ht
theorem wX17_is_57t16 (ht : oT h a = 16) : E_ (d + 1) mX17_is 57 ls [.int x1, .ref r1, .ref a] h = (C_ d mX16_is [.ref a, .ref r1, .int x1] h).bind fun r => E_ (d + 1) mX17_is 60 ls (xpu r.1 []) r.2 := e_vir dX17_is_57 rfl rfl rfl rfl rfl rfl (Nat.le_of_ble_eq_true rfl) (Nat.le_of_ble_eq_true rfl) ht
theorem wX17_is_57t17 (ht : oT h a = 17) : E_ (d + 1) mX17_is 57 ls [.int x1, .ref r1, .ref a] h = (C_ d mX17_is [.ref a, .ref r1, .int x1] h).bind fun r => E_ (d + 1) mX17_is 60 ls (xpu r.1 []) r.2 := e_vir dX17_is_57 rfl rfl rfl rfl rfl rfl (Nat.le_of_ble_eq_true rfl) (Nat.le_of_ble_eq_true rfl) ht
theorem wX17_is_60 : E_ d mX17_is 60 ls (.int x :: st) h = if x = 0 then E_ d mX17_is 67 ls st h else E_ d mX17_is 63 ls st h := e_zeq dX17_is_60 rfl rfl
theorem wX17_is_63 : E_ d mX17_is 63 ls st h = E_ d mX17_is 64 ls (.int (nI 1) :: st) h := e_iconst dX17_is_63 kiconst_1 rfl
theorem wX17_is_64 : E_ d mX17_is 64 ls st h = E_ d mX17_is 68 ls st h := e_gt dX17_is_64 rfl
theorem wX17_is_67 : E_ d mX17_is 67 ls st h = E_ d mX17_is 68 ls (.int (nI 0) :: st) h := e_iconst dX17_is_67 kiconst_0 rfl
theorem wX17_is_68 (hx : x = 0 ∨ x = 1) : E_ d mX17_is 68 ls [.int x] h = some (some (.int x), h) := e_rtZ dX17_is_68 rfl hx
/-! FootOut$Stop.<init> -/
theorem wX18_init_0 : E_ d mX18_init 0 [.val (.ref a), s1, s2] st h = E_ d mX18_init 1 [.val (.ref a), s1, s2] (.ref a :: st) h := e_go dX18_init_0 rfl rfl
theorem wX18_init_0q : E_ d mX18_init 0 [.val (va_rf q), s1, s2] st h = E_ d mX18_init 1 [.val (va_rf q), s1, s2] (va_rf q :: st) h := by cases q <;> exact e_go dX18_init_0 rfl rfl
theorem wX18_init_0n : E_ d mX18_init 0 [.val .null, s1, s2] st h = E_ d mX18_init 1 [.val .null, s1, s2] (.null :: st) h := e_go dX18_init_0 rfl rfl
theorem wX18_init_1 : E_ d mX18_init 1 ls [.ref a] h = E_ d mX18_init 4 ls [] h := e_go dX18_init_1 rfl rfl
theorem wX18_init_4 : E_ d mX18_init 4 [.val (.ref a), s1, s2] st h = E_ d mX18_init 5 [.val (.ref a), s1, s2] (.ref a :: st) h := e_go dX18_init_4 rfl rfl
theorem wX18_init_4q : E_ d mX18_init 4 [.val (va_rf q), s1, s2] st h = E_ d mX18_init 5 [.val (va_rf q), s1, s2] (va_rf q :: st) h := by cases q <;> exact e_go dX18_init_4 rfl rfl
theorem wX18_init_4n : E_ d mX18_init 4 [.val .null, s1, s2] st h = E_ d mX18_init 5 [.val .null, s1, s2] (.null :: st) h := e_go dX18_init_4 rfl rfl
theorem wX18_init_5 : E_ d mX18_init 5 [s0, .val (.int x), s2] st h = E_ d mX18_init 6 [s0, .val (.int x), s2] (.int x :: st) h := e_go dX18_init_5 rfl rfl
theorem wX18_init_6 (ht : oT h a = 18) : E_ d mX18_init 6 ls (.int x :: .ref a :: st) h = E_ d mX18_init 9 ls st (pI h a (va_up (oI h a) 0 x)) := e_putI0 dX18_init_6 rfl rfl rfl ht
theorem wX18_init_9 : E_ d mX18_init 9 [.val (.ref a), s1, s2] st h = E_ d mX18_init 10 [.val (.ref a), s1, s2] (.ref a :: st) h := e_go dX18_init_9 rfl rfl
theorem wX18_init_9q : E_ d mX18_init 9 [.val (va_rf q), s1, s2] st h = E_ d mX18_init 10 [.val (va_rf q), s1, s2] (va_rf q :: st) h := by cases q <;> exact e_go dX18_init_9 rfl rfl
theorem wX18_init_9n : E_ d mX18_init 9 [.val .null, s1, s2] st h = E_ d mX18_init 10 [.val .null, s1, s2] (.null :: st) h := e_go dX18_init_9 rfl rfl
theorem wX18_init_10 : E_ d mX18_init 10 [s0, s1, .val (.ref a)] st h = E_ d mX18_init 11 [s0, s1, .val (.ref a)] (.ref a :: st) h := e_go dX18_init_10 rfl rfl
theorem wX18_init_10q : E_ d mX18_init 10 [s0, s1, .val (va_rf q)] st h = E_ d mX18_init 11 [s0, s1, .val (va_rf q)] (va_rf q :: st) h := by cases q <;> exact e_go dX18_init_10 rfl rfl
theorem wX18_init_10n : E_ d mX18_init 10 [s0, s1, .val .null] st h = E_ d mX18_init 11 [s0, s1, .val .null] (.null :: st) h := e_go dX18_init_10 rfl rfl
theorem wX18_init_11 (ht : oT h a = 18) : E_ d mX18_init 11 ls (.ref b :: .ref a :: st) h = E_ d mX18_init 14 ls st (pR h a (va_up (oR h a) 1 (some b))) := e_putR0 dX18_init_11 rfl rfl rfl ht
theorem wX18_init_11q (ht : oT h a = 18) : E_ d mX18_init 11 ls (va_rf q :: .ref a :: st) h = E_ d mX18_init 14 ls st (pR h a (va_up (oR h a) 1 q)) := e_putR0q dX18_init_11 rfl rfl rfl ht
theorem wX18_init_14 : E_ d mX18_init 14 ls [] h = some (none, h) := e_rt dX18_init_14 rfl rfl
/-! FootOut$Place.<init> -/
theorem wX19_init_0 : E_ d mX19_init 0 [.val (.ref a), s1, s2, s3, s4, s5] st h = E_ d mX19_init 1 [.val (.ref a), s1, s2, s3, s4, s5] (.ref a :: st) h := e_go dX19_init_0 rfl rfl
theorem wX19_init_1 : E_ d mX19_init 1 ls [.ref a] h = E_ d mX19_init 4 ls [] h := e_go dX19_init_1 rfl rfl
theorem wX19_init_4 : E_ d mX19_init 4 [.val (.ref a), s1, s2, s3, s4, s5] st h = E_ d mX19_init 5 [.val (.ref a), s1, s2, s3, s4, s5] (.ref a :: st) h := e_go dX19_init_4 rfl rfl
theorem wX19_init_5 : E_ d mX19_init 5 [s0, .val (.int x), s2, s3, s4, s5] st h = E_ d mX19_init 6 [s0, .val (.int x), s2, s3, s4, s5] (.int x :: st) h := e_go dX19_init_5 rfl rfl
theorem wX19_init_6 (ht : oT h a = 19) (hx : x = 0 ∨ x = 1) : E_ d mX19_init 6 ls (.int x :: .ref a :: st) h = E_ d mX19_init 9 ls st (pI h a (va_up (oI h a) 0 x)) := e_putZ0 dX19_init_6 rfl rfl rfl ht hx
theorem wX19_init_9 : E_ d mX19_init 9 [.val (.ref a), s1, s2, s3, s4, s5] st h = E_ d mX19_init 10 [.val (.ref a), s1, s2, s3, s4, s5] (.ref a :: st) h := e_go dX19_init_9 rfl rfl
theorem wX19_init_10 : E_ d mX19_init 10 ls st h = E_ d mX19_init 11 ls (.int (nI 2) :: st) h := e_iconst dX19_init_10 kiconst_2 rfl
theorem wX19_init_11 (h0 : 0 ≤ x.toInt) (h1 : x.toInt ≤ 65536) : E_ d mX19_init 11 ls (.int x :: st) h = E_ d mX19_init 13 ls (.ref (oX h) :: st) (pO h 40 x.toNatClampNeg) := e_newa dX19_init_11 rfl rfl h0 h1
theorem wX19_init_13 : E_ d mX19_init 13 ls (.ref a :: st) h = E_ d mX19_init 14 ls (.ref a :: .ref a :: st) h := e_go dX19_init_13 rfl rfl
theorem wX19_init_14 : E_ d mX19_init 14 ls st h = E_ d mX19_init 15 ls (.int (nI 0) :: st) h := e_iconst dX19_init_14 kiconst_0 rfl
theorem wX19_init_15 : E_ d mX19_init 15 [s0, s1, .val (.int x), s3, s4, s5] st h = E_ d mX19_init 16 [s0, s1, .val (.int x), s3, s4, s5] (.int x :: st) h := e_go dX19_init_15 rfl rfl
theorem wX19_init_16 (ht : oT h a = 40) (hi : xix x (oN h a) = true) : E_ d mX19_init 16 ls (.int y :: .int x :: .ref a :: st) h = E_ d mX19_init 17 ls st (pI h a (va_up (oI h a) x.toNatClampNeg y)) := e_iast dX19_init_16 rfl ht hi
theorem wX19_init_17 : E_ d mX19_init 17 ls (.ref a :: st) h = E_ d mX19_init 18 ls (.ref a :: .ref a :: st) h := e_go dX19_init_17 rfl rfl
theorem wX19_init_18 : E_ d mX19_init 18 ls st h = E_ d mX19_init 19 ls (.int (nI 1) :: st) h := e_iconst dX19_init_18 kiconst_1 rfl
theorem wX19_init_19 : E_ d mX19_init 19 [s0, s1, s2, .val (.int x), s4, s5] st h = E_ d mX19_init 20 [s0, s1, s2, .val (.int x), s4, s5] (.int x :: st) h := e_go dX19_init_19 rfl rfl
theorem wX19_init_20 (ht : oT h a = 40) (hi : xix x (oN h a) = true) : E_ d mX19_init 20 ls (.int y :: .int x :: .ref a :: st) h = E_ d mX19_init 21 ls st (pI h a (va_up (oI h a) x.toNatClampNeg y)) := e_iast dX19_init_20 rfl ht hi
theorem wX19_init_21 (ht : oT h a = 19) : E_ d mX19_init 21 ls (.ref b :: .ref a :: st) h = E_ d mX19_init 24 ls st (pR h a (va_up (oR h a) 1 (some b))) := e_putR0 dX19_init_21 rfl rfl rfl ht
theorem wX19_init_21q (ht : oT h a = 19) : E_ d mX19_init 21 ls (va_rf q :: .ref a :: st) h = E_ d mX19_init 24 ls st (pR h a (va_up (oR h a) 1 q)) := e_putR0q dX19_init_21 rfl rfl rfl ht
theorem wX19_init_24 : E_ d mX19_init 24 [.val (.ref a), s1, s2, s3, s4, s5] st h = E_ d mX19_init 25 [.val (.ref a), s1, s2, s3, s4, s5] (.ref a :: st) h := e_go dX19_init_24 rfl rfl
theorem wX19_init_25 : E_ d mX19_init 25 ls st h = E_ d mX19_init 26 ls (.int (nI 2) :: st) h := e_iconst dX19_init_25 kiconst_2 rfl
theorem wX19_init_26 (h0 : 0 ≤ x.toInt) (h1 : x.toInt ≤ 65536) : E_ d mX19_init 26 ls (.int x :: st) h = E_ d mX19_init 28 ls (.ref (oX h) :: st) (pO h 40 x.toNatClampNeg) := e_newa dX19_init_26 rfl rfl h0 h1
theorem wX19_init_28 : E_ d mX19_init 28 ls (.ref a :: st) h = E_ d mX19_init 29 ls (.ref a :: .ref a :: st) h := e_go dX19_init_28 rfl rfl
theorem wX19_init_29 : E_ d mX19_init 29 ls st h = E_ d mX19_init 30 ls (.int (nI 0) :: st) h := e_iconst dX19_init_29 kiconst_0 rfl
theorem wX19_init_30 : E_ d mX19_init 30 [s0, s1, s2, s3, .val (.int x), s5] st h = E_ d mX19_init 32 [s0, s1, s2, s3, .val (.int x), s5] (.int x :: st) h := e_go dX19_init_30 rfl rfl
theorem wX19_init_32 (ht : oT h a = 40) (hi : xix x (oN h a) = true) : E_ d mX19_init 32 ls (.int y :: .int x :: .ref a :: st) h = E_ d mX19_init 33 ls st (pI h a (va_up (oI h a) x.toNatClampNeg y)) := e_iast dX19_init_32 rfl ht hi
theorem wX19_init_33 : E_ d mX19_init 33 ls (.ref a :: st) h = E_ d mX19_init 34 ls (.ref a :: .ref a :: st) h := e_go dX19_init_33 rfl rfl
theorem wX19_init_34 : E_ d mX19_init 34 ls st h = E_ d mX19_init 35 ls (.int (nI 1) :: st) h := e_iconst dX19_init_34 kiconst_1 rfl
theorem wX19_init_35 : E_ d mX19_init 35 [s0, s1, s2, s3, s4, .val (.int x)] st h = E_ d mX19_init 37 [s0, s1, s2, s3, s4, .val (.int x)] (.int x :: st) h := e_go dX19_init_35 rfl rfl
theorem wX19_init_37 (ht : oT h a = 40) (hi : xix x (oN h a) = true) : E_ d mX19_init 37 ls (.int y :: .int x :: .ref a :: st) h = E_ d mX19_init 38 ls st (pI h a (va_up (oI h a) x.toNatClampNeg y)) := e_iast dX19_init_37 rfl ht hi
theorem wX19_init_38 (ht : oT h a = 19) : E_ d mX19_init 38 ls (.ref b :: .ref a :: st) h = E_ d mX19_init 41 ls st (pR h a (va_up (oR h a) 2 (some b))) := e_putR0 dX19_init_38 rfl rfl rfl ht
theorem wX19_init_38q (ht : oT h a = 19) : E_ d mX19_init 38 ls (va_rf q :: .ref a :: st) h = E_ d mX19_init 41 ls st (pR h a (va_up (oR h a) 2 q)) := e_putR0q dX19_init_38 rfl rfl rfl ht
theorem wX19_init_41 : E_ d mX19_init 41 ls [] h = some (none, h) := e_rt dX19_init_41 rfl rfl
/-! FootOut$Place.hurt -/
theorem wX19_hurt_0 : E_ d mX19_hurt 0 [.val (.ref a)] st h = E_ d mX19_hurt 1 [.val (.ref a)] (.ref a :: st) h := e_go dX19_hurt_0 rfl rfl
theorem wX19_hurt_1 (ht : oT h a = 19) : E_ d mX19_hurt 1 ls (.ref a :: st) h = E_ d mX19_hurt 4 ls (va_rf (oR h a 2) :: st) h := e_getR0 dX19_hurt_1 rfl rfl ht
theorem wX19_hurt_4 : E_ d mX19_hurt 4 ls st h = E_ d mX19_hurt 5 ls (.int (nI 0) :: st) h := e_iconst dX19_hurt_4 kiconst_0 rfl
theorem wX19_hurt_5 (ht : oT h a = 40) (hi : xix x (oN h a) = true) : E_ d mX19_hurt 5 ls (.int x :: .ref a :: st) h = E_ d mX19_hurt 6 ls (.int (oI h a x.toNatClampNeg) :: st) h := e_iald dX19_hurt_5 rfl ht hi
theorem wX19_hurt_6 : E_ d mX19_hurt 6 [.val (.ref a)] st h = E_ d mX19_hurt 7 [.val (.ref a)] (.ref a :: st) h := e_go dX19_hurt_6 rfl rfl
theorem wX19_hurt_7 (ht : oT h a = 19) : E_ d mX19_hurt 7 ls (.ref a :: st) h = E_ d mX19_hurt 10 ls (va_rf (oR h a 2) :: st) h := e_getR0 dX19_hurt_7 rfl rfl ht
theorem wX19_hurt_10 : E_ d mX19_hurt 10 ls st h = E_ d mX19_hurt 11 ls (.int (nI 1) :: st) h := e_iconst dX19_hurt_10 kiconst_1 rfl
theorem wX19_hurt_11 (ht : oT h a = 40) (hi : xix x (oN h a) = true) : E_ d mX19_hurt 11 ls (.int x :: .ref a :: st) h = E_ d mX19_hurt 12 ls (.int (oI h a x.toNatClampNeg) :: st) h := e_iald dX19_hurt_11 rfl ht hi
theorem wX19_hurt_12 : E_ d mX19_hurt 12 ls (.int y :: .int x :: st) h = E_ d mX19_hurt 13 ls (.int (x + y) :: st) h := e_go dX19_hurt_12 rfl rfl
theorem wX19_hurt_13 : E_ d mX19_hurt 13 ls [.int x] h = some (some (.int x), h) := e_rt dX19_hurt_13 rfl rfl
/-! FootOut$Place.crossing -/
theorem wX19_crossing_0 : E_ d mX19_crossing 0 [.val (.ref a)] st h = E_ d mX19_crossing 1 [.val (.ref a)] (.ref a :: st) h := e_go dX19_crossing_0 rfl rfl
theorem wX19_crossing_1 (ht : oT h a = 19) : E_ d mX19_crossing 1 ls (.ref a :: st) h = E_ d mX19_crossing 4 ls (va_rf (oR h a 1) :: st) h := e_getR0 dX19_crossing_1 rfl rfl ht
theorem wX19_crossing_4 : E_ d mX19_crossing 4 ls st h = E_ d mX19_crossing 5 ls (.int (nI 0) :: st) h := e_iconst dX19_crossing_4 kiconst_0 rfl
theorem wX19_crossing_5 (ht : oT h a = 40) (hi : xix x (oN h a) = true) : E_ d mX19_crossing 5 ls (.int x :: .ref a :: st) h = E_ d mX19_crossing 6 ls (.int (oI h a x.toNatClampNeg) :: st) h := e_iald dX19_crossing_5 rfl ht hi
theorem wX19_crossing_6 : E_ d mX19_crossing 6 [.val (.ref a)] st h = E_ d mX19_crossing 7 [.val (.ref a)] (.ref a :: st) h := e_go dX19_crossing_6 rfl rfl
theorem wX19_crossing_7 (ht : oT h a = 19) : E_ d mX19_crossing 7 ls (.ref a :: st) h = E_ d mX19_crossing 10 ls (va_rf (oR h a 1) :: st) h := e_getR0 dX19_crossing_7 rfl rfl ht
theorem wX19_crossing_10 : E_ d mX19_crossing 10 ls st h = E_ d mX19_crossing 11 ls (.int (nI 1) :: st) h := e_iconst dX19_crossing_10 kiconst_1 rfl
theorem wX19_crossing_11 (ht : oT h a = 40) (hi : xix x (oN h a) = true) : E_ d mX19_crossing 11 ls (.int x :: .ref a :: st) h = E_ d mX19_crossing 12 ls (.int (oI h a x.toNatClampNeg) :: st) h := e_iald dX19_crossing_11 rfl ht hi
theorem wX19_crossing_12 : E_ d mX19_crossing 12 ls (.int y :: .int x :: st) h = E_ d mX19_crossing 13 ls (.int (x + y) :: st) h := e_go dX19_crossing_12 rfl rfl
theorem wX19_crossing_13 : E_ d mX19_crossing 13 ls [.int x] h = some (some (.int x), h) := e_rt dX19_crossing_13 rfl rfl
/-! FootOut$Place.fall -/
theorem wX19_fall_0 : E_ d mX19_fall 0 [.val (.ref a)] st h = E_ d mX19_fall 1 [.val (.ref a)] (.ref a :: st) h := e_go dX19_fall_0 rfl rfl
theorem wX19_fall_1 (ht : oT h a = 19) : E_ (d + 1) mX19_fall 1 ls [.ref a] h = (C_ d mX19_hurt [.ref a] h).bind fun r => E_ (d + 1) mX19_fall 4 ls (xpu r.1 []) r.2 := e_vir dX19_fall_1 rfl rfl rfl rfl rfl rfl (Nat.le_of_ble_eq_true rfl) (Nat.le_of_ble_eq_true rfl) ht
theorem wX19_fall_4 : E_ d mX19_fall 4 [.val (.ref a)] st h = E_ d mX19_fall 5 [.val (.ref a)] (.ref a :: st) h := e_go dX19_fall_4 rfl rfl
theorem wX19_fall_5 (ht : oT h a = 19) : E_ d mX19_fall 5 ls (.ref a :: st) h = E_ d mX19_fall 8 ls (.int (oI h a 3) :: st) h := e_getI dX19_fall_5 rfl rfl ht
theorem wX19_fall_8 : E_ d mX19_fall 8 ls (.int y :: .int x :: st) h = E_ d mX19_fall 9 ls (.int (x - y) :: st) h := e_go dX19_fall_8 rfl rfl
theorem wX19_fall_9 : E_ d mX19_fall 9 ls [.int x] h = some (some (.int x), h) := e_rt dX19_fall_9 rfl rfl
/-! FootOut$Place.copy -/
theorem wX19_copy_0 : E_ d mX19_copy 0 ls st h = E_ d mX19_copy 3 ls (.ref (oX h) :: st) (pO h 19 4) := e_go dX19_copy_0 rfl rfl
theorem wX19_copy_3 : E_ d mX19_copy 3 ls (.ref a :: st) h = E_ d mX19_copy 4 ls (.ref a :: .ref a :: st) h := e_go dX19_copy_3 rfl rfl
theorem wX19_copy_4 : E_ d mX19_copy 4 [.val (.ref a), s1] st h = E_ d mX19_copy 5 [.val (.ref a), s1] (.ref a :: st) h := e_go dX19_copy_4 rfl rfl
theorem wX19_copy_5 (ht : oT h a = 19) : E_ d mX19_copy 5 ls (.ref a :: st) h = E_ d mX19_copy 8 ls (.int (oI h a 0) :: st) h := e_getZ0 dX19_copy_5 rfl rfl ht
theorem wX19_copy_8 : E_ d mX19_copy 8 [.val (.ref a), s1] st h = E_ d mX19_copy 9 [.val (.ref a), s1] (.ref a :: st) h := e_go dX19_copy_8 rfl rfl
theorem wX19_copy_9 (ht : oT h a = 19) : E_ d mX19_copy 9 ls (.ref a :: st) h = E_ d mX19_copy 12 ls (va_rf (oR h a 1) :: st) h := e_getR0 dX19_copy_9 rfl rfl ht
theorem wX19_copy_12 : E_ d mX19_copy 12 ls st h = E_ d mX19_copy 13 ls (.int (nI 0) :: st) h := e_iconst dX19_copy_12 kiconst_0 rfl
theorem wX19_copy_13 (ht : oT h a = 40) (hi : xix x (oN h a) = true) : E_ d mX19_copy 13 ls (.int x :: .ref a :: st) h = E_ d mX19_copy 14 ls (.int (oI h a x.toNatClampNeg) :: st) h := e_iald dX19_copy_13 rfl ht hi
theorem wX19_copy_14 : E_ d mX19_copy 14 [.val (.ref a), s1] st h = E_ d mX19_copy 15 [.val (.ref a), s1] (.ref a :: st) h := e_go dX19_copy_14 rfl rfl
theorem wX19_copy_15 (ht : oT h a = 19) : E_ d mX19_copy 15 ls (.ref a :: st) h = E_ d mX19_copy 18 ls (va_rf (oR h a 1) :: st) h := e_getR0 dX19_copy_15 rfl rfl ht
theorem wX19_copy_18 : E_ d mX19_copy 18 ls st h = E_ d mX19_copy 19 ls (.int (nI 1) :: st) h := e_iconst dX19_copy_18 kiconst_1 rfl
theorem wX19_copy_19 (ht : oT h a = 40) (hi : xix x (oN h a) = true) : E_ d mX19_copy 19 ls (.int x :: .ref a :: st) h = E_ d mX19_copy 20 ls (.int (oI h a x.toNatClampNeg) :: st) h := e_iald dX19_copy_19 rfl ht hi
theorem wX19_copy_20 : E_ d mX19_copy 20 [.val (.ref a), s1] st h = E_ d mX19_copy 21 [.val (.ref a), s1] (.ref a :: st) h := e_go dX19_copy_20 rfl rfl
theorem wX19_copy_21 (ht : oT h a = 19) : E_ d mX19_copy 21 ls (.ref a :: st) h = E_ d mX19_copy 24 ls (va_rf (oR h a 2) :: st) h := e_getR0 dX19_copy_21 rfl rfl ht
theorem wX19_copy_24 : E_ d mX19_copy 24 ls st h = E_ d mX19_copy 25 ls (.int (nI 0) :: st) h := e_iconst dX19_copy_24 kiconst_0 rfl
theorem wX19_copy_25 (ht : oT h a = 40) (hi : xix x (oN h a) = true) : E_ d mX19_copy 25 ls (.int x :: .ref a :: st) h = E_ d mX19_copy 26 ls (.int (oI h a x.toNatClampNeg) :: st) h := e_iald dX19_copy_25 rfl ht hi
theorem wX19_copy_26 : E_ d mX19_copy 26 [.val (.ref a), s1] st h = E_ d mX19_copy 27 [.val (.ref a), s1] (.ref a :: st) h := e_go dX19_copy_26 rfl rfl
theorem wX19_copy_27 (ht : oT h a = 19) : E_ d mX19_copy 27 ls (.ref a :: st) h = E_ d mX19_copy 30 ls (va_rf (oR h a 2) :: st) h := e_getR0 dX19_copy_27 rfl rfl ht
theorem wX19_copy_30 : E_ d mX19_copy 30 ls st h = E_ d mX19_copy 31 ls (.int (nI 1) :: st) h := e_iconst dX19_copy_30 kiconst_1 rfl
theorem wX19_copy_31 (ht : oT h a = 40) (hi : xix x (oN h a) = true) : E_ d mX19_copy 31 ls (.int x :: .ref a :: st) h = E_ d mX19_copy 32 ls (.int (oI h a x.toNatClampNeg) :: st) h := e_iald dX19_copy_31 rfl ht hi
theorem wX19_copy_32 : E_ (d + 1) mX19_copy 32 ls [.int x5, .int x4, .int x3, .int x2, .int x1, .ref a, .ref r1] h = (C_ d mX19_init [.ref a, .int x1, .int x2, .int x3, .int x4, .int x5] h).bind fun r => E_ (d + 1) mX19_copy 35 ls (xpu r.1 [.ref r1]) r.2 := e_call dX19_copy_32 rfl rfl
theorem wX19_copy_35 : E_ d mX19_copy 35 [s0, s1] (.ref a :: st) h = E_ d mX19_copy 36 [xk s0, .val (.ref a)] st h := e_go dX19_copy_35 rfl rfl
theorem wX19_copy_36 : E_ d mX19_copy 36 [s0, .val (.ref a)] st h = E_ d mX19_copy 37 [s0, .val (.ref a)] (.ref a :: st) h := e_go dX19_copy_36 rfl rfl
theorem wX19_copy_37 : E_ d mX19_copy 37 [.val (.ref a), s1] st h = E_ d mX19_copy 38 [.val (.ref a), s1] (.ref a :: st) h := e_go dX19_copy_37 rfl rfl
theorem wX19_copy_38 (ht : oT h a = 19) : E_ d mX19_copy 38 ls (.ref a :: st) h = E_ d mX19_copy 41 ls (.int (oI h a 3) :: st) h := e_getI dX19_copy_38 rfl rfl ht
theorem wX19_copy_41 (ht : oT h a = 19) : E_ d mX19_copy 41 ls (.int x :: .ref a :: st) h = E_ d mX19_copy 44 ls st (pI h a (va_up (oI h a) 3 x)) := e_putI dX19_copy_41 rfl rfl ht
theorem wX19_copy_44 : E_ d mX19_copy 44 [s0, .val (.ref a)] st h = E_ d mX19_copy 45 [s0, .val (.ref a)] (.ref a :: st) h := e_go dX19_copy_44 rfl rfl
theorem wX19_copy_45 : E_ d mX19_copy 45 ls [.ref a] h = some (some (.ref a), h) := e_rt dX19_copy_45 rfl rfl
/-! FootOut$Scene.<init> -/
theorem wX2_init_0 : E_ d mX2_init 0 [.val (.ref a)] st h = E_ d mX2_init 1 [.val (.ref a)] (.ref a :: st) h := e_go dX2_init_0 rfl rfl
theorem wX2_init_1 : E_ d mX2_init 1 ls [.ref a] h = E_ d mX2_init 4 ls [] h := e_go dX2_init_1 rfl rfl
theorem wX2_init_4 : E_ d mX2_init 4 [.val (.ref a)] st h = E_ d mX2_init 5 [.val (.ref a)] (.ref a :: st) h := e_go dX2_init_4 rfl rfl
theorem wX2_init_5 : E_ d mX2_init 5 ls st h = E_ d mX2_init 8 ls (.ref (oX h) :: st) (pO h 4 3) := e_go dX2_init_5 rfl rfl
theorem wX2_init_8 : E_ d mX2_init 8 ls (.ref a :: st) h = E_ d mX2_init 9 ls (.ref a :: .ref a :: st) h := e_go dX2_init_8 rfl rfl
theorem wX2_init_9 : E_ d mX2_init 9 ls st h = E_ d mX2_init 10 ls (.int (nI 2) :: st) h := e_iconst dX2_init_9 kiconst_2 rfl
theorem wX2_init_10 : E_ (d + 1) mX2_init 10 ls [.int x1, .ref a, .ref r1, .ref r2] h = (C_ d mJ2_init [.ref a, .int x1] h).bind fun r => E_ (d + 1) mX2_init 13 ls (xpu r.1 [.ref r1, .ref r2]) r.2 := e_call dX2_init_10 rfl rfl
theorem wX2_init_13 (ht : oT h a = 3) : E_ d mX2_init 13 ls (.ref b :: .ref a :: st) h = E_ d mX2_init 16 ls st (pR h a (va_up (oR h a) 0 (some b))) := e_putR0 dX2_init_13 rfl rfl rfl ht
theorem wX2_init_13q (ht : oT h a = 3) : E_ d mX2_init 13 ls (va_rf q :: .ref a :: st) h = E_ d mX2_init 16 ls st (pR h a (va_up (oR h a) 0 q)) := e_putR0q dX2_init_13 rfl rfl rfl ht
theorem wX2_init_16 : E_ d mX2_init 16 [.val (.ref a)] st h = E_ d mX2_init 17 [.val (.ref a)] (.ref a :: st) h := e_go dX2_init_16 rfl rfl
theorem wX2_init_17 : E_ d mX2_init 17 ls st h = E_ d mX2_init 18 ls (.int (nI 1) :: st) h := e_iconst dX2_init_17 kiconst_1 rfl
theorem wX2_init_18 (ht : oT h a = 3) : E_ d mX2_init 18 ls (.int x :: .ref a :: st) h = E_ d mX2_init 21 ls st (pI h a (va_up (oI h a) 1 x)) := e_putI dX2_init_18 rfl rfl ht
theorem wX2_init_21 : E_ d mX2_init 21 [.val (.ref a)] st h = E_ d mX2_init 22 [.val (.ref a)] (.ref a :: st) h := e_go dX2_init_21 rfl rfl
theorem wX2_init_22 : E_ d mX2_init 22 ls st h = E_ d mX2_init 23 ls (.int (nI 3) :: st) h := e_iconst dX2_init_22 kiconst_3 rfl
theorem wX2_init_23 (ht : oT h a = 3) : E_ d mX2_init 23 ls (.int x :: .ref a :: st) h = E_ d mX2_init 26 ls st (pI h a (va_up (oI h a) 4 x)) := e_putI dX2_init_23 rfl rfl ht
theorem wX2_init_26 : E_ d mX2_init 26 [.val (.ref a)] st h = E_ d mX2_init 27 [.val (.ref a)] (.ref a :: st) h := e_go dX2_init_26 rfl rfl
theorem wX2_init_27 : E_ d mX2_init 27 ls st h = E_ d mX2_init 29 ls (.int (nI 20) :: st) h := e_bipush dX2_init_27 kbipush_20 rfl
theorem wX2_init_29 (ht : oT h a = 3) : E_ d mX2_init 29 ls (.int x :: .ref a :: st) h = E_ d mX2_init 32 ls st (pI h a (va_up (oI h a) 5 x)) := e_putI dX2_init_29 rfl rfl ht
theorem wX2_init_32 : E_ d mX2_init 32 [.val (.ref a)] st h = E_ d mX2_init 33 [.val (.ref a)] (.ref a :: st) h := e_go dX2_init_32 rfl rfl
theorem wX2_init_33 : E_ d mX2_init 33 ls st h = E_ d mX2_init 35 ls (.int (nI 40) :: st) h := e_bipush dX2_init_33 kbipush_40 rfl
theorem wX2_init_35 (ht : oT h a = 3) : E_ d mX2_init 35 ls (.int x :: .ref a :: st) h = E_ d mX2_init 38 ls st (pI h a (va_up (oI h a) 6 x)) := e_putI dX2_init_35 rfl rfl ht
theorem wX2_init_38 : E_ d mX2_init 38 ls [] h = some (none, h) := e_rt dX2_init_38 rfl rfl
/-! FootOut$Scene.get -/
theorem wX2_get_0 : E_ d mX2_get 0 [s0, .val (.int x)] st h = E_ d mX2_get 1 [s0, .val (.int x)] (.int x :: st) h := e_go dX2_get_0 rfl rfl
theorem wX2_get_1 : E_ d mX2_get 1 ls (.int x :: st) h = if x = 0 then E_ d mX2_get 4 ls st h else E_ d mX2_get 11 ls st h := e_zne dX2_get_1 rfl rfl
theorem wX2_get_4 : E_ d mX2_get 4 [.val (.ref a), s1] st h = E_ d mX2_get 5 [.val (.ref a), s1] (.ref a :: st) h := e_go dX2_get_4 rfl rfl
theorem wX2_get_5 (ht : oT h a = 3) : E_ d mX2_get 5 ls (.ref a :: st) h = E_ d mX2_get 8 ls (.int (oI h a 3) :: st) h := e_getI dX2_get_5 rfl rfl ht
theorem wX2_get_8 : E_ d mX2_get 8 ls st h = E_ d mX2_get 39 ls st h := e_gt dX2_get_8 rfl
theorem wX2_get_11 : E_ d mX2_get 11 [s0, .val (.int x)] st h = E_ d mX2_get 12 [s0, .val (.int x)] (.int x :: st) h := e_go dX2_get_11 rfl rfl
theorem wX2_get_12 : E_ d mX2_get 12 ls st h = E_ d mX2_get 13 ls (.int (nI 1) :: st) h := e_iconst dX2_get_12 kiconst_1 rfl
theorem wX2_get_13 : E_ d mX2_get 13 ls (.int y :: .int x :: st) h = if x = y then E_ d mX2_get 16 ls st h else E_ d mX2_get 23 ls st h := e_ine dX2_get_13 rfl rfl
theorem wX2_get_16 : E_ d mX2_get 16 [.val (.ref a), s1] st h = E_ d mX2_get 17 [.val (.ref a), s1] (.ref a :: st) h := e_go dX2_get_16 rfl rfl
theorem wX2_get_17 (ht : oT h a = 3) : E_ d mX2_get 17 ls (.ref a :: st) h = E_ d mX2_get 20 ls (.int (oI h a 4) :: st) h := e_getI dX2_get_17 rfl rfl ht
theorem wX2_get_20 : E_ d mX2_get 20 ls st h = E_ d mX2_get 39 ls st h := e_gt dX2_get_20 rfl
theorem wX2_get_23 : E_ d mX2_get 23 [s0, .val (.int x)] st h = E_ d mX2_get 24 [s0, .val (.int x)] (.int x :: st) h := e_go dX2_get_23 rfl rfl
theorem wX2_get_24 : E_ d mX2_get 24 ls st h = E_ d mX2_get 25 ls (.int (nI 2) :: st) h := e_iconst dX2_get_24 kiconst_2 rfl
theorem wX2_get_25 : E_ d mX2_get 25 ls (.int y :: .int x :: st) h = if x = y then E_ d mX2_get 28 ls st h else E_ d mX2_get 35 ls st h := e_ine dX2_get_25 rfl rfl
theorem wX2_get_28 : E_ d mX2_get 28 [.val (.ref a), s1] st h = E_ d mX2_get 29 [.val (.ref a), s1] (.ref a :: st) h := e_go dX2_get_28 rfl rfl
theorem wX2_get_29 (ht : oT h a = 3) : E_ d mX2_get 29 ls (.ref a :: st) h = E_ d mX2_get 32 ls (.int (oI h a 5) :: st) h := e_getI dX2_get_29 rfl rfl ht
theorem wX2_get_32 : E_ d mX2_get 32 ls st h = E_ d mX2_get 39 ls st h := e_gt dX2_get_32 rfl
theorem wX2_get_35 : E_ d mX2_get 35 [.val (.ref a), s1] st h = E_ d mX2_get 36 [.val (.ref a), s1] (.ref a :: st) h := e_go dX2_get_35 rfl rfl
theorem wX2_get_36 (ht : oT h a = 3) : E_ d mX2_get 36 ls (.ref a :: st) h = E_ d mX2_get 39 ls (.int (oI h a 6) :: st) h := e_getI dX2_get_36 rfl rfl ht
theorem wX2_get_39 : E_ d mX2_get 39 ls [.int x] h = some (some (.int x), h) := e_rt dX2_get_39 rfl rfl
/-! FootOut$Scene.put -/
theorem wX2_put_0 : E_ d mX2_put 0 [s0, .val (.int x), s2] st h = E_ d mX2_put 1 [s0, .val (.int x), s2] (.int x :: st) h := e_go dX2_put_0 rfl rfl
theorem wX2_put_1d (hx : x.toInt < 0 ∨ 2 < x.toInt) : E_ d mX2_put 1 ls (.int x :: st) h = E_ d mX2_put 52 ls st h := e_swO dX2_put_1 rfl hx
theorem wX2_put_1c0 : E_ d mX2_put 1 ls (.int (nI 0) :: st) h = E_ d mX2_put 28 ls st h := e_swI (n := 0) dX2_put_1 (by decide) (by decide) rfl rfl
theorem wX2_put_1c1 : E_ d mX2_put 1 ls (.int (nI 1) :: st) h = E_ d mX2_put 36 ls st h := e_swI (n := 1) dX2_put_1 (by decide) (by decide) rfl rfl
theorem wX2_put_1c2 : E_ d mX2_put 1 ls (.int (nI 2) :: st) h = E_ d mX2_put 44 ls st h := e_swI (n := 2) dX2_put_1 (by decide) (by decide) rfl rfl
theorem wX2_put_28 : E_ d mX2_put 28 [.val (.ref a), s1, s2] st h = E_ d mX2_put 29 [.val (.ref a), s1, s2] (.ref a :: st) h := e_go dX2_put_28 rfl rfl
theorem wX2_put_29 : E_ d mX2_put 29 [s0, s1, .val (.int x)] st h = E_ d mX2_put 30 [s0, s1, .val (.int x)] (.int x :: st) h := e_go dX2_put_29 rfl rfl
theorem wX2_put_30 (ht : oT h a = 3) : E_ d mX2_put 30 ls (.int x :: .ref a :: st) h = E_ d mX2_put 33 ls st (pI h a (va_up (oI h a) 3 x)) := e_putI dX2_put_30 rfl rfl ht
theorem wX2_put_33 : E_ d mX2_put 33 ls st h = E_ d mX2_put 57 ls st h := e_gt dX2_put_33 rfl
theorem wX2_put_36 : E_ d mX2_put 36 [.val (.ref a), s1, s2] st h = E_ d mX2_put 37 [.val (.ref a), s1, s2] (.ref a :: st) h := e_go dX2_put_36 rfl rfl
theorem wX2_put_37 : E_ d mX2_put 37 [s0, s1, .val (.int x)] st h = E_ d mX2_put 38 [s0, s1, .val (.int x)] (.int x :: st) h := e_go dX2_put_37 rfl rfl
theorem wX2_put_38 (ht : oT h a = 3) : E_ d mX2_put 38 ls (.int x :: .ref a :: st) h = E_ d mX2_put 41 ls st (pI h a (va_up (oI h a) 4 x)) := e_putI dX2_put_38 rfl rfl ht
theorem wX2_put_41 : E_ d mX2_put 41 ls st h = E_ d mX2_put 57 ls st h := e_gt dX2_put_41 rfl
theorem wX2_put_44 : E_ d mX2_put 44 [.val (.ref a), s1, s2] st h = E_ d mX2_put 45 [.val (.ref a), s1, s2] (.ref a :: st) h := e_go dX2_put_44 rfl rfl
theorem wX2_put_45 : E_ d mX2_put 45 [s0, s1, .val (.int x)] st h = E_ d mX2_put 46 [s0, s1, .val (.int x)] (.int x :: st) h := e_go dX2_put_45 rfl rfl
theorem wX2_put_46 (ht : oT h a = 3) : E_ d mX2_put 46 ls (.int x :: .ref a :: st) h = E_ d mX2_put 49 ls st (pI h a (va_up (oI h a) 5 x)) := e_putI dX2_put_46 rfl rfl ht
theorem wX2_put_49 : E_ d mX2_put 49 ls st h = E_ d mX2_put 57 ls st h := e_gt dX2_put_49 rfl
theorem wX2_put_52 : E_ d mX2_put 52 [.val (.ref a), s1, s2] st h = E_ d mX2_put 53 [.val (.ref a), s1, s2] (.ref a :: st) h := e_go dX2_put_52 rfl rfl
theorem wX2_put_53 : E_ d mX2_put 53 [s0, s1, .val (.int x)] st h = E_ d mX2_put 54 [s0, s1, .val (.int x)] (.int x :: st) h := e_go dX2_put_53 rfl rfl
theorem wX2_put_54 (ht : oT h a = 3) : E_ d mX2_put 54 ls (.int x :: .ref a :: st) h = E_ d mX2_put 57 ls st (pI h a (va_up (oI h a) 6 x)) := e_putI dX2_put_54 rfl rfl ht
theorem wX2_put_57 : E_ d mX2_put 57 ls [] h = some (none, h) := e_rt dX2_put_57 rfl rfl
/-! FootOut$Scene.pace -/
theorem wX2_pace_0 : E_ d mX2_pace 0 [.val (.ref a), s1] st h = E_ d mX2_pace 1 [.val (.ref a), s1] (.ref a :: st) h := e_go dX2_pace_0 rfl rfl
theorem wX2_pace_1 (ht : oT h a = 3) : E_ d mX2_pace 1 ls (.ref a :: st) h = E_ d mX2_pace 4 ls (.int (oI h a 2) :: st) h := e_getI dX2_pace_1 rfl rfl ht
theorem wX2_pace_4 : E_ d mX2_pace 4 ls st h = E_ d mX2_pace 6 ls (.int (nI 6) :: st) h := e_bipush dX2_pace_4 kbipush_6 rfl
theorem wX2_pace_6 : E_ (d + 1) mX2_pace 6 ls [.int x2, .int x1] h = (C_ d mX0_has [.int x1, .int x2] h).bind fun r => E_ (d + 1) mX2_pace 9 ls (xpu r.1 []) r.2 := e_call dX2_pace_6 rfl rfl
theorem wX2_pace_9 : E_ d mX2_pace 9 ls (.int x :: st) h = if x = 0 then E_ d mX2_pace 33 ls st h else E_ d mX2_pace 12 ls st h := e_zeq dX2_pace_9 rfl rfl
theorem wX2_pace_12 : E_ d mX2_pace 12 ls st h = E_ d mX2_pace 13 ls (.int (nI 4) :: st) h := e_iconst dX2_pace_12 kiconst_4 rfl
theorem wX2_pace_13 : E_ d mX2_pace 13 [.val (.ref a), s1] st h = E_ d mX2_pace 14 [.val (.ref a), s1] (.ref a :: st) h := e_go dX2_pace_13 rfl rfl
theorem wX2_pace_14 (ht : oT h a = 3) : E_ d mX2_pace 14 ls (.ref a :: st) h = E_ d mX2_pace 17 ls (va_rf (oR h a 0) :: st) h := e_getR0 dX2_pace_14 rfl rfl ht
theorem wX2_pace_17 : E_ d mX2_pace 17 [s0, .val (.int x)] st h = E_ d mX2_pace 18 [s0, .val (.int x)] (.int x :: st) h := e_go dX2_pace_17 rfl rfl
theorem wX2_pace_18 (ht : oT h a = 4) : E_ (d + 1) mX2_pace 18 ls [.int x1, .ref a, .int x2] h = (C_ d mJ2_get [.ref a, .int x1] h).bind fun r => E_ (d + 1) mX2_pace 21 ls (xpu r.1 [.int x2]) r.2 := e_vir dX2_pace_18 rfl rfl rfl rfl rfl rfl (Nat.le_of_ble_eq_true rfl) (Nat.le_of_ble_eq_true rfl) ht
theorem wX2_pace_21 (ht : oT h a = 9) : E_ d mX2_pace 21 ls (.ref a :: st) h = E_ d mX2_pace 24 ls (.ref a :: st) h := e_cast dX2_pace_21 rfl rfl ht
theorem wX2_pace_21n : E_ d mX2_pace 21 ls (.null :: st) h = E_ d mX2_pace 24 ls (.null :: st) h := e_go dX2_pace_21 rfl rfl
theorem wX2_pace_24 (ht : oT h a = 9) : E_ d mX2_pace 24 ls (.ref a :: st) h = E_ d mX2_pace 27 ls (.int (oI h a 2) :: st) h := e_getI0 dX2_pace_24 rfl rfl ht
theorem wX2_pace_27 : E_ d mX2_pace 27 ls [.int x2, .int x1] h = (xP 7 [.int x1, .int x2] h).bind fun r => E_ d mX2_pace 30 ls (xpu r.1 []) r.2 := e_staP dX2_pace_27 rfl (Nat.le_of_ble_eq_true rfl) rfl rfl rfl (Nat.le_of_ble_eq_true rfl)
theorem wX2_pace_30 : E_ d mX2_pace 30 ls st h = E_ d mX2_pace 47 ls st h := e_gt dX2_pace_30 rfl
theorem wX2_pace_33 : E_ d mX2_pace 33 [.val (.ref a), s1] st h = E_ d mX2_pace 34 [.val (.ref a), s1] (.ref a :: st) h := e_go dX2_pace_33 rfl rfl
theorem wX2_pace_34 (ht : oT h a = 3) : E_ d mX2_pace 34 ls (.ref a :: st) h = E_ d mX2_pace 37 ls (va_rf (oR h a 0) :: st) h := e_getR0 dX2_pace_34 rfl rfl ht
theorem wX2_pace_37 : E_ d mX2_pace 37 [s0, .val (.int x)] st h = E_ d mX2_pace 38 [s0, .val (.int x)] (.int x :: st) h := e_go dX2_pace_37 rfl rfl
theorem wX2_pace_38 (ht : oT h a = 4) : E_ (d + 1) mX2_pace 38 ls [.int x1, .ref a] h = (C_ d mJ2_get [.ref a, .int x1] h).bind fun r => E_ (d + 1) mX2_pace 41 ls (xpu r.1 []) r.2 := e_vir dX2_pace_38 rfl rfl rfl rfl rfl rfl (Nat.le_of_ble_eq_true rfl) (Nat.le_of_ble_eq_true rfl) ht
theorem wX2_pace_41 (ht : oT h a = 9) : E_ d mX2_pace 41 ls (.ref a :: st) h = E_ d mX2_pace 44 ls (.ref a :: st) h := e_cast dX2_pace_41 rfl rfl ht
theorem wX2_pace_41n : E_ d mX2_pace 41 ls (.null :: st) h = E_ d mX2_pace 44 ls (.null :: st) h := e_go dX2_pace_41 rfl rfl
theorem wX2_pace_44 (ht : oT h a = 9) : E_ d mX2_pace 44 ls (.ref a :: st) h = E_ d mX2_pace 47 ls (.int (oI h a 2) :: st) h := e_getI0 dX2_pace_44 rfl rfl ht
theorem wX2_pace_47 : E_ d mX2_pace 47 ls [.int x] h = some (some (.int x), h) := e_rt dX2_pace_47 rfl rfl
/-! FootOut$Scene.copy -/
theorem wX2_copy_0 : E_ d mX2_copy 0 ls st h = E_ d mX2_copy 3 ls (.ref (oX h) :: st) (pO h 3 8) := e_go dX2_copy_0 rfl rfl
theorem wX2_copy_3 : E_ d mX2_copy 3 ls (.ref a :: st) h = E_ d mX2_copy 4 ls (.ref a :: .ref a :: st) h := e_go dX2_copy_3 rfl rfl
theorem wX2_copy_4 : E_ (d + 1) mX2_copy 4 ls [.ref a, .ref r1] h = (C_ d mX2_init [.ref a] h).bind fun r => E_ (d + 1) mX2_copy 7 ls (xpu r.1 [.ref r1]) r.2 := e_call dX2_copy_4 rfl rfl
theorem wX2_copy_7 : E_ d mX2_copy 7 [s0, s1, s2] (.ref a :: st) h = E_ d mX2_copy 8 [xk s0, .val (.ref a), s2] st h := e_go dX2_copy_7 rfl rfl
theorem wX2_copy_8 : E_ d mX2_copy 8 ls st h = E_ d mX2_copy 9 ls (.int (nI 0) :: st) h := e_iconst dX2_copy_8 kiconst_0 rfl
theorem wX2_copy_9 : E_ d mX2_copy 9 [s0, s1, s2] (.int x :: st) h = E_ d mX2_copy 10 [s0, xk s1, .val (.int x)] st h := e_go dX2_copy_9 rfl rfl
theorem wX2_copy_10 : E_ d mX2_copy 10 [s0, s1, .val (.int x)] st h = E_ d mX2_copy 11 [s0, s1, .val (.int x)] (.int x :: st) h := e_go dX2_copy_10 rfl rfl
theorem wX2_copy_11 : E_ d mX2_copy 11 [.val (.ref a), s1, s2] st h = E_ d mX2_copy 12 [.val (.ref a), s1, s2] (.ref a :: st) h := e_go dX2_copy_11 rfl rfl
theorem wX2_copy_12 (ht : oT h a = 3) : E_ d mX2_copy 12 ls (.ref a :: st) h = E_ d mX2_copy 15 ls (va_rf (oR h a 0) :: st) h := e_getR0 dX2_copy_12 rfl rfl ht
theorem wX2_copy_15 (ht : oT h a = 4) : E_ (d + 1) mX2_copy 15 ls [.ref a, .int x1] h = (C_ d mJ2_size [.ref a] h).bind fun r => E_ (d + 1) mX2_copy 18 ls (xpu r.1 [.int x1]) r.2 := e_vir dX2_copy_15 rfl rfl rfl rfl rfl rfl (Nat.le_of_ble_eq_true rfl) (Nat.le_of_ble_eq_true rfl) ht
theorem wX2_copy_18 : E_ d mX2_copy 18 ls (.int y :: .int x :: st) h = if x < y then E_ d mX2_copy 21 ls st h else E_ d mX2_copy 46 ls st h := e_ige dX2_copy_18 rfl rfl
theorem wX2_copy_21 : E_ d mX2_copy 21 [s0, .val (.ref a), s2] st h = E_ d mX2_copy 22 [s0, .val (.ref a), s2] (.ref a :: st) h := e_go dX2_copy_21 rfl rfl
theorem wX2_copy_22 (ht : oT h a = 3) : E_ d mX2_copy 22 ls (.ref a :: st) h = E_ d mX2_copy 25 ls (va_rf (oR h a 0) :: st) h := e_getR0 dX2_copy_22 rfl rfl ht
theorem wX2_copy_25 : E_ d mX2_copy 25 [.val (.ref a), s1, s2] st h = E_ d mX2_copy 26 [.val (.ref a), s1, s2] (.ref a :: st) h := e_go dX2_copy_25 rfl rfl
theorem wX2_copy_26 (ht : oT h a = 3) : E_ d mX2_copy 26 ls (.ref a :: st) h = E_ d mX2_copy 29 ls (va_rf (oR h a 0) :: st) h := e_getR0 dX2_copy_26 rfl rfl ht
theorem wX2_copy_29 : E_ d mX2_copy 29 [s0, s1, .val (.int x)] st h = E_ d mX2_copy 30 [s0, s1, .val (.int x)] (.int x :: st) h := e_go dX2_copy_29 rfl rfl
theorem wX2_copy_30 (ht : oT h a = 4) : E_ (d + 1) mX2_copy 30 ls [.int x1, .ref a, .ref r1] h = (C_ d mJ2_get [.ref a, .int x1] h).bind fun r => E_ (d + 1) mX2_copy 33 ls (xpu r.1 [.ref r1]) r.2 := e_vir dX2_copy_30 rfl rfl rfl rfl rfl rfl (Nat.le_of_ble_eq_true rfl) (Nat.le_of_ble_eq_true rfl) ht
theorem wX2_copy_33 (ht : oT h a = 9) : E_ d mX2_copy 33 ls (.ref a :: st) h = E_ d mX2_copy 36 ls (.ref a :: st) h := e_cast dX2_copy_33 rfl rfl ht
theorem wX2_copy_33n : E_ d mX2_copy 33 ls (.null :: st) h = E_ d mX2_copy 36 ls (.null :: st) h := e_go dX2_copy_33 rfl rfl
theorem wX2_copy_36 (ht : oT h a = 4) : E_ (d + 1) mX2_copy 36 ls [.ref r1, .ref a] h = (C_ d mJ2_add [.ref a, .ref r1] h).bind fun r => E_ (d + 1) mX2_copy 39 ls (xpu r.1 []) r.2 := e_vir dX2_copy_36 rfl rfl rfl rfl rfl rfl (Nat.le_of_ble_eq_true rfl) (Nat.le_of_ble_eq_true rfl) ht
theorem wX2_copy_39 : E_ d mX2_copy 39 ls (.int x :: st) h = E_ d mX2_copy 40 ls st h := e_go dX2_copy_39 rfl rfl
theorem wX2_copy_40 : E_ d mX2_copy 40 [s0, s1, .val (.int x)] st h = E_ d mX2_copy 43 [s0, xk s1, .val (.int (x + nI 1))] st h := by rw [← kiinc_1]; exact e_go dX2_copy_40 rfl rfl
theorem wX2_copy_43 : E_ d mX2_copy 43 ls st h = E_ d mX2_copy 10 ls st h := e_gt dX2_copy_43 rfl
theorem wX2_copy_46 : E_ d mX2_copy 46 [s0, .val (.ref a), s2] st h = E_ d mX2_copy 47 [s0, .val (.ref a), s2] (.ref a :: st) h := e_go dX2_copy_46 rfl rfl
theorem wX2_copy_47 : E_ d mX2_copy 47 [.val (.ref a), s1, s2] st h = E_ d mX2_copy 48 [.val (.ref a), s1, s2] (.ref a :: st) h := e_go dX2_copy_47 rfl rfl
theorem wX2_copy_48 (ht : oT h a = 3) : E_ d mX2_copy 48 ls (.ref a :: st) h = E_ d mX2_copy 51 ls (.int (oI h a 1) :: st) h := e_getI dX2_copy_48 rfl rfl ht
theorem wX2_copy_51 (ht : oT h a = 3) : E_ d mX2_copy 51 ls (.int x :: .ref a :: st) h = E_ d mX2_copy 54 ls st (pI h a (va_up (oI h a) 1 x)) := e_putI dX2_copy_51 rfl rfl ht
theorem wX2_copy_54 : E_ d mX2_copy 54 [s0, .val (.ref a), s2] st h = E_ d mX2_copy 55 [s0, .val (.ref a), s2] (.ref a :: st) h := e_go dX2_copy_54 rfl rfl
theorem wX2_copy_55 : E_ d mX2_copy 55 [.val (.ref a), s1, s2] st h = E_ d mX2_copy 56 [.val (.ref a), s1, s2] (.ref a :: st) h := e_go dX2_copy_55 rfl rfl
theorem wX2_copy_56 (ht : oT h a = 3) : E_ d mX2_copy 56 ls (.ref a :: st) h = E_ d mX2_copy 59 ls (.int (oI h a 2) :: st) h := e_getI dX2_copy_56 rfl rfl ht
theorem wX2_copy_59 (ht : oT h a = 3) : E_ d mX2_copy 59 ls (.int x :: .ref a :: st) h = E_ d mX2_copy 62 ls st (pI h a (va_up (oI h a) 2 x)) := e_putI dX2_copy_59 rfl rfl ht
theorem wX2_copy_62 : E_ d mX2_copy 62 [s0, .val (.ref a), s2] st h = E_ d mX2_copy 63 [s0, .val (.ref a), s2] (.ref a :: st) h := e_go dX2_copy_62 rfl rfl
theorem wX2_copy_63 : E_ d mX2_copy 63 [.val (.ref a), s1, s2] st h = E_ d mX2_copy 64 [.val (.ref a), s1, s2] (.ref a :: st) h := e_go dX2_copy_63 rfl rfl
theorem wX2_copy_64 (ht : oT h a = 3) : E_ d mX2_copy 64 ls (.ref a :: st) h = E_ d mX2_copy 67 ls (.int (oI h a 3) :: st) h := e_getI dX2_copy_64 rfl rfl ht
theorem wX2_copy_67 (ht : oT h a = 3) : E_ d mX2_copy 67 ls (.int x :: .ref a :: st) h = E_ d mX2_copy 70 ls st (pI h a (va_up (oI h a) 3 x)) := e_putI dX2_copy_67 rfl rfl ht
theorem wX2_copy_70 : E_ d mX2_copy 70 [s0, .val (.ref a), s2] st h = E_ d mX2_copy 71 [s0, .val (.ref a), s2] (.ref a :: st) h := e_go dX2_copy_70 rfl rfl
theorem wX2_copy_71 : E_ d mX2_copy 71 [.val (.ref a), s1, s2] st h = E_ d mX2_copy 72 [.val (.ref a), s1, s2] (.ref a :: st) h := e_go dX2_copy_71 rfl rfl
theorem wX2_copy_72 (ht : oT h a = 3) : E_ d mX2_copy 72 ls (.ref a :: st) h = E_ d mX2_copy 75 ls (.int (oI h a 4) :: st) h := e_getI dX2_copy_72 rfl rfl ht
theorem wX2_copy_75 (ht : oT h a = 3) : E_ d mX2_copy 75 ls (.int x :: .ref a :: st) h = E_ d mX2_copy 78 ls st (pI h a (va_up (oI h a) 4 x)) := e_putI dX2_copy_75 rfl rfl ht
theorem wX2_copy_78 : E_ d mX2_copy 78 [s0, .val (.ref a), s2] st h = E_ d mX2_copy 79 [s0, .val (.ref a), s2] (.ref a :: st) h := e_go dX2_copy_78 rfl rfl
theorem wX2_copy_79 : E_ d mX2_copy 79 [.val (.ref a), s1, s2] st h = E_ d mX2_copy 80 [.val (.ref a), s1, s2] (.ref a :: st) h := e_go dX2_copy_79 rfl rfl
theorem wX2_copy_80 (ht : oT h a = 3) : E_ d mX2_copy 80 ls (.ref a :: st) h = E_ d mX2_copy 83 ls (.int (oI h a 5) :: st) h := e_getI dX2_copy_80 rfl rfl ht
theorem wX2_copy_83 (ht : oT h a = 3) : E_ d mX2_copy 83 ls (.int x :: .ref a :: st) h = E_ d mX2_copy 86 ls st (pI h a (va_up (oI h a) 5 x)) := e_putI dX2_copy_83 rfl rfl ht
theorem wX2_copy_86 : E_ d mX2_copy 86 [s0, .val (.ref a), s2] st h = E_ d mX2_copy 87 [s0, .val (.ref a), s2] (.ref a :: st) h := e_go dX2_copy_86 rfl rfl
theorem wX2_copy_87 : E_ d mX2_copy 87 [.val (.ref a), s1, s2] st h = E_ d mX2_copy 88 [.val (.ref a), s1, s2] (.ref a :: st) h := e_go dX2_copy_87 rfl rfl
theorem wX2_copy_88 (ht : oT h a = 3) : E_ d mX2_copy 88 ls (.ref a :: st) h = E_ d mX2_copy 91 ls (.int (oI h a 6) :: st) h := e_getI dX2_copy_88 rfl rfl ht
theorem wX2_copy_91 (ht : oT h a = 3) : E_ d mX2_copy 91 ls (.int x :: .ref a :: st) h = E_ d mX2_copy 94 ls st (pI h a (va_up (oI h a) 6 x)) := e_putI dX2_copy_91 rfl rfl ht
theorem wX2_copy_94 : E_ d mX2_copy 94 [s0, .val (.ref a), s2] st h = E_ d mX2_copy 95 [s0, .val (.ref a), s2] (.ref a :: st) h := e_go dX2_copy_94 rfl rfl
theorem wX2_copy_95 : E_ d mX2_copy 95 [.val (.ref a), s1, s2] st h = E_ d mX2_copy 96 [.val (.ref a), s1, s2] (.ref a :: st) h := e_go dX2_copy_95 rfl rfl
theorem wX2_copy_96 (ht : oT h a = 3) : E_ d mX2_copy 96 ls (.ref a :: st) h = E_ d mX2_copy 99 ls (.int (oI h a 7) :: st) h := e_getI dX2_copy_96 rfl rfl ht
theorem wX2_copy_99 (ht : oT h a = 3) : E_ d mX2_copy 99 ls (.int x :: .ref a :: st) h = E_ d mX2_copy 102 ls st (pI h a (va_up (oI h a) 7 x)) := e_putI dX2_copy_99 rfl rfl ht
theorem wX2_copy_102 : E_ d mX2_copy 102 [s0, .val (.ref a), s2] st h = E_ d mX2_copy 103 [s0, .val (.ref a), s2] (.ref a :: st) h := e_go dX2_copy_102 rfl rfl
theorem wX2_copy_103 : E_ d mX2_copy 103 ls [.ref a] h = some (some (.ref a), h) := e_rt dX2_copy_103 rfl rfl
/-! FootOut$Walk.<init> -/
theorem wX3_init_0 : E_ d mX3_init 0 [.val (.ref a)] st h = E_ d mX3_init 1 [.val (.ref a)] (.ref a :: st) h := e_go dX3_init_0 rfl rfl
theorem wX3_init_1 : E_ d mX3_init 1 ls [.ref a] h = E_ d mX3_init 4 ls [] h := e_go dX3_init_1 rfl rfl
theorem wX3_init_4 : E_ d mX3_init 4 [.val (.ref a)] st h = E_ d mX3_init 5 [.val (.ref a)] (.ref a :: st) h := e_go dX3_init_4 rfl rfl
theorem wX3_init_5 : E_ d mX3_init 5 ls st h = E_ d mX3_init 7 ls (.int (nI 8) :: st) h := e_bipush dX3_init_5 kbipush_8 rfl
theorem wX3_init_7 (h0 : 0 ≤ x.toInt) (h1 : x.toInt ≤ 65536) : E_ d mX3_init 7 ls (.int x :: st) h = E_ d mX3_init 9 ls (.ref (oX h) :: st) (pO h 40 x.toNatClampNeg) := e_newa dX3_init_7 rfl rfl h0 h1
theorem wX3_init_9 (ht : oT h a = 5) : E_ d mX3_init 9 ls (.ref b :: .ref a :: st) h = E_ d mX3_init 12 ls st (pR h a (va_up (oR h a) 0 (some b))) := e_putR0 dX3_init_9 rfl rfl rfl ht
theorem wX3_init_9q (ht : oT h a = 5) : E_ d mX3_init 9 ls (va_rf q :: .ref a :: st) h = E_ d mX3_init 12 ls st (pR h a (va_up (oR h a) 0 q)) := e_putR0q dX3_init_9 rfl rfl rfl ht
theorem wX3_init_12 : E_ d mX3_init 12 [.val (.ref a)] st h = E_ d mX3_init 13 [.val (.ref a)] (.ref a :: st) h := e_go dX3_init_12 rfl rfl
theorem wX3_init_13 : E_ d mX3_init 13 ls st h = E_ d mX3_init 15 ls (.int (nI 8) :: st) h := e_bipush dX3_init_13 kbipush_8 rfl
theorem wX3_init_15 (h0 : 0 ≤ x.toInt) (h1 : x.toInt ≤ 65536) : E_ d mX3_init 15 ls (.int x :: st) h = E_ d mX3_init 17 ls (.ref (oX h) :: st) (pO h 40 x.toNatClampNeg) := e_newa dX3_init_15 rfl rfl h0 h1
theorem wX3_init_17 (ht : oT h a = 5) : E_ d mX3_init 17 ls (.ref b :: .ref a :: st) h = E_ d mX3_init 20 ls st (pR h a (va_up (oR h a) 1 (some b))) := e_putR0 dX3_init_17 rfl rfl rfl ht
theorem wX3_init_17q (ht : oT h a = 5) : E_ d mX3_init 17 ls (va_rf q :: .ref a :: st) h = E_ d mX3_init 20 ls st (pR h a (va_up (oR h a) 1 q)) := e_putR0q dX3_init_17 rfl rfl rfl ht
theorem wX3_init_20 : E_ d mX3_init 20 [.val (.ref a)] st h = E_ d mX3_init 21 [.val (.ref a)] (.ref a :: st) h := e_go dX3_init_20 rfl rfl
theorem wX3_init_21 : E_ d mX3_init 21 ls st h = E_ d mX3_init 23 ls (.int (nI 8) :: st) h := e_bipush dX3_init_21 kbipush_8 rfl
theorem wX3_init_23 (h0 : 0 ≤ x.toInt) (h1 : x.toInt ≤ 65536) : E_ d mX3_init 23 ls (.int x :: st) h = E_ d mX3_init 25 ls (.ref (oX h) :: st) (pO h 40 x.toNatClampNeg) := e_newa dX3_init_23 rfl rfl h0 h1
theorem wX3_init_25 (ht : oT h a = 5) : E_ d mX3_init 25 ls (.ref b :: .ref a :: st) h = E_ d mX3_init 28 ls st (pR h a (va_up (oR h a) 2 (some b))) := e_putR0 dX3_init_25 rfl rfl rfl ht
theorem wX3_init_25q (ht : oT h a = 5) : E_ d mX3_init 25 ls (va_rf q :: .ref a :: st) h = E_ d mX3_init 28 ls st (pR h a (va_up (oR h a) 2 q)) := e_putR0q dX3_init_25 rfl rfl rfl ht
theorem wX3_init_28 : E_ d mX3_init 28 [.val (.ref a)] st h = E_ d mX3_init 29 [.val (.ref a)] (.ref a :: st) h := e_go dX3_init_28 rfl rfl
theorem wX3_init_29 : E_ d mX3_init 29 ls st h = E_ d mX3_init 31 ls (.int (nI 8) :: st) h := e_bipush dX3_init_29 kbipush_8 rfl
theorem wX3_init_31 (h0 : 0 ≤ x.toInt) (h1 : x.toInt ≤ 65536) : E_ d mX3_init 31 ls (.int x :: st) h = E_ d mX3_init 33 ls (.ref (oX h) :: st) (pO h 42 x.toNatClampNeg) := e_newa dX3_init_31 rfl rfl h0 h1
theorem wX3_init_33 (ht : oT h a = 5) : E_ d mX3_init 33 ls (.ref b :: .ref a :: st) h = E_ d mX3_init 36 ls st (pR h a (va_up (oR h a) 3 (some b))) := e_putR0 dX3_init_33 rfl rfl rfl ht
theorem wX3_init_33q (ht : oT h a = 5) : E_ d mX3_init 33 ls (va_rf q :: .ref a :: st) h = E_ d mX3_init 36 ls st (pR h a (va_up (oR h a) 3 q)) := e_putR0q dX3_init_33 rfl rfl rfl ht
theorem wX3_init_36 : E_ d mX3_init 36 [.val (.ref a)] st h = E_ d mX3_init 37 [.val (.ref a)] (.ref a :: st) h := e_go dX3_init_36 rfl rfl
theorem wX3_init_37 : E_ d mX3_init 37 ls st h = E_ d mX3_init 39 ls (.int (nI 8) :: st) h := e_bipush dX3_init_37 kbipush_8 rfl
theorem wX3_init_39 (h0 : 0 ≤ x.toInt) (h1 : x.toInt ≤ 65536) : E_ d mX3_init 39 ls (.int x :: st) h = E_ d mX3_init 41 ls (.ref (oX h) :: st) (pO h 42 x.toNatClampNeg) := e_newa dX3_init_39 rfl rfl h0 h1
theorem wX3_init_41 (ht : oT h a = 5) : E_ d mX3_init 41 ls (.ref b :: .ref a :: st) h = E_ d mX3_init 44 ls st (pR h a (va_up (oR h a) 4 (some b))) := e_putR0 dX3_init_41 rfl rfl rfl ht
theorem wX3_init_41q (ht : oT h a = 5) : E_ d mX3_init 41 ls (va_rf q :: .ref a :: st) h = E_ d mX3_init 44 ls st (pR h a (va_up (oR h a) 4 q)) := e_putR0q dX3_init_41 rfl rfl rfl ht
theorem wX3_init_44 : E_ d mX3_init 44 ls [] h = some (none, h) := e_rt dX3_init_44 rfl rfl
/-! FootOut$Walk.begins -/
theorem wX3_begins_0 : E_ d mX3_begins 0 [.val (.ref a), s1, s2] st h = E_ d mX3_begins 1 [.val (.ref a), s1, s2] (.ref a :: st) h := e_go dX3_begins_0 rfl rfl
theorem wX3_begins_1 : E_ d mX3_begins 1 [s0, .val (.ref a), s2] st h = E_ d mX3_begins 2 [s0, .val (.ref a), s2] (.ref a :: st) h := e_go dX3_begins_1 rfl rfl
theorem wX3_begins_2 (ht : oT h a = 5) : E_ d mX3_begins 2 ls (.ref b :: .ref a :: st) h = E_ d mX3_begins 5 ls st (pR h a (va_up (oR h a) 5 (some b))) := e_putR dX3_begins_2 rfl rfl ht
theorem wX3_begins_5 : E_ d mX3_begins 5 [.val (.ref a), s1, s2] st h = E_ d mX3_begins 6 [.val (.ref a), s1, s2] (.ref a :: st) h := e_go dX3_begins_5 rfl rfl
theorem wX3_begins_6 : E_ d mX3_begins 6 ls st h = E_ d mX3_begins 7 ls (.int (nI 0) :: st) h := e_iconst dX3_begins_6 kiconst_0 rfl
theorem wX3_begins_7 (ht : oT h a = 5) : E_ d mX3_begins 7 ls (.int x :: .ref a :: st) h = E_ d mX3_begins 10 ls st (pI h a (va_up (oI h a) 6 x)) := e_putI dX3_begins_7 rfl rfl ht
theorem wX3_begins_10 : E_ d mX3_begins 10 [.val (.ref a), s1, s2] st h = E_ d mX3_begins 11 [.val (.ref a), s1, s2] (.ref a :: st) h := e_go dX3_begins_10 rfl rfl
theorem wX3_begins_11 : E_ d mX3_begins 11 ls st h = E_ d mX3_begins 12 ls (.int (nI 0) :: st) h := e_iconst dX3_begins_11 kiconst_0 rfl
theorem wX3_begins_12 (ht : oT h a = 5) : E_ d mX3_begins 12 ls (.int x :: .ref a :: st) h = E_ d mX3_begins 15 ls st (pI h a (va_up (oI h a) 7 x)) := e_putI dX3_begins_12 rfl rfl ht
theorem wX3_begins_15 : E_ d mX3_begins 15 [.val (.ref a), s1, s2] st h = E_ d mX3_begins 16 [.val (.ref a), s1, s2] (.ref a :: st) h := e_go dX3_begins_15 rfl rfl
theorem wX3_begins_16 : E_ d mX3_begins 16 ls st h = E_ d mX3_begins 17 ls (.int (nI 0) :: st) h := e_iconst dX3_begins_16 kiconst_0 rfl
theorem wX3_begins_17 (ht : oT h a = 5) : E_ d mX3_begins 17 ls (.int x :: .ref a :: st) h = E_ d mX3_begins 20 ls st (pI h a (va_up (oI h a) 8 x)) := e_putI dX3_begins_17 rfl rfl ht
theorem wX3_begins_20 : E_ d mX3_begins 20 [.val (.ref a), s1, s2] st h = E_ d mX3_begins 21 [.val (.ref a), s1, s2] (.ref a :: st) h := e_go dX3_begins_20 rfl rfl
theorem wX3_begins_21 : E_ d mX3_begins 21 ls st h = E_ d mX3_begins 22 ls (.int (nI 0) :: st) h := e_iconst dX3_begins_21 kiconst_0 rfl
theorem wX3_begins_22 (ht : oT h a = 5) : E_ d mX3_begins 22 ls (.int x :: .ref a :: st) h = E_ d mX3_begins 25 ls st (pI h a (va_up (oI h a) 9 x)) := e_putI dX3_begins_22 rfl rfl ht
theorem wX3_begins_25 : E_ d mX3_begins 25 [.val (.ref a), s1, s2] st h = E_ d mX3_begins 26 [.val (.ref a), s1, s2] (.ref a :: st) h := e_go dX3_begins_25 rfl rfl
theorem wX3_begins_26 : E_ d mX3_begins 26 ls st h = E_ d mX3_begins 27 ls (.int (nI 0) :: st) h := e_iconst dX3_begins_26 kiconst_0 rfl
theorem wX3_begins_27 (ht : oT h a = 5) : E_ d mX3_begins 27 ls (.int x :: .ref a :: st) h = E_ d mX3_begins 30 ls st (pI h a (va_up (oI h a) 10 x)) := e_putI dX3_begins_27 rfl rfl ht
theorem wX3_begins_30 : E_ d mX3_begins 30 [.val (.ref a), s1, s2] st h = E_ d mX3_begins 31 [.val (.ref a), s1, s2] (.ref a :: st) h := e_go dX3_begins_30 rfl rfl
theorem wX3_begins_31 : E_ d mX3_begins 31 ls st h = E_ d mX3_begins 32 ls (.int ((-1)) :: st) h := e_iconst dX3_begins_31 kiconst_m1 rfl
theorem wX3_begins_32 (ht : oT h a = 5) : E_ d mX3_begins 32 ls (.int x :: .ref a :: st) h = E_ d mX3_begins 35 ls st (pI h a (va_up (oI h a) 11 x)) := e_putI dX3_begins_32 rfl rfl ht
theorem wX3_begins_35 : E_ d mX3_begins 35 [.val (.ref a), s1, s2] st h = E_ d mX3_begins 36 [.val (.ref a), s1, s2] (.ref a :: st) h := e_go dX3_begins_35 rfl rfl
theorem wX3_begins_36 : E_ d mX3_begins 36 ls st h = E_ d mX3_begins 37 ls (.int (nI 0) :: st) h := e_iconst dX3_begins_36 kiconst_0 rfl
theorem wX3_begins_37 (ht : oT h a = 5) : E_ d mX3_begins 37 ls (.int x :: .ref a :: st) h = E_ d mX3_begins 40 ls st (pI h a (va_up (oI h a) 12 x)) := e_putI dX3_begins_37 rfl rfl ht
theorem wX3_begins_40 : E_ d mX3_begins 40 ls st h = E_ d mX3_begins 41 ls (.int (nI 0) :: st) h := e_iconst dX3_begins_40 kiconst_0 rfl
theorem wX3_begins_41 : E_ d mX3_begins 41 [s0, s1, s2] (.int x :: st) h = E_ d mX3_begins 42 [s0, xk s1, .val (.int x)] st h := e_go dX3_begins_41 rfl rfl
theorem wX3_begins_42 : E_ d mX3_begins 42 [s0, s1, .val (.int x)] st h = E_ d mX3_begins 43 [s0, s1, .val (.int x)] (.int x :: st) h := e_go dX3_begins_42 rfl rfl
theorem wX3_begins_43 : E_ d mX3_begins 43 [.val (.ref a), s1, s2] st h = E_ d mX3_begins 44 [.val (.ref a), s1, s2] (.ref a :: st) h := e_go dX3_begins_43 rfl rfl
theorem wX3_begins_44 (ht : oT h a = 5) : E_ (d + 1) mX3_begins 44 ls [.ref a, .int x1] h = (C_ d mX3_many [.ref a] h).bind fun r => E_ (d + 1) mX3_begins 47 ls (xpu r.1 [.int x1]) r.2 := e_vir dX3_begins_44 rfl rfl rfl rfl rfl rfl (Nat.le_of_ble_eq_true rfl) (Nat.le_of_ble_eq_true rfl) ht
theorem wX3_begins_47 : E_ d mX3_begins 47 ls (.int y :: .int x :: st) h = if x < y then E_ d mX3_begins 50 ls st h else E_ d mX3_begins 95 ls st h := e_ige dX3_begins_47 rfl rfl
theorem wX3_begins_50 : E_ d mX3_begins 50 [.val (.ref a), s1, s2] st h = E_ d mX3_begins 51 [.val (.ref a), s1, s2] (.ref a :: st) h := e_go dX3_begins_50 rfl rfl
theorem wX3_begins_51 (ht : oT h a = 5) : E_ d mX3_begins 51 ls (.ref a :: st) h = E_ d mX3_begins 54 ls (va_rf (oR h a 0) :: st) h := e_getR0 dX3_begins_51 rfl rfl ht
theorem wX3_begins_54 : E_ d mX3_begins 54 [s0, s1, .val (.int x)] st h = E_ d mX3_begins 55 [s0, s1, .val (.int x)] (.int x :: st) h := e_go dX3_begins_54 rfl rfl
theorem wX3_begins_55 : E_ d mX3_begins 55 [.val (.ref a), s1, s2] st h = E_ d mX3_begins 56 [.val (.ref a), s1, s2] (.ref a :: st) h := e_go dX3_begins_55 rfl rfl
theorem wX3_begins_56 : E_ d mX3_begins 56 [s0, s1, .val (.int x)] st h = E_ d mX3_begins 57 [s0, s1, .val (.int x)] (.int x :: st) h := e_go dX3_begins_56 rfl rfl
theorem wX3_begins_57 (ht : oT h a = 5) : E_ (d + 1) mX3_begins 57 ls [.int x1, .ref a, .int x2, .ref r1] h = (C_ d mX3_car [.ref a, .int x1] h).bind fun r => E_ (d + 1) mX3_begins 60 ls (xpu r.1 [.int x2, .ref r1]) r.2 := e_vir dX3_begins_57 rfl rfl rfl rfl rfl rfl (Nat.le_of_ble_eq_true rfl) (Nat.le_of_ble_eq_true rfl) ht
theorem wX3_begins_60 (ht : oT h a = 9) : E_ d mX3_begins 60 ls (.ref a :: st) h = E_ d mX3_begins 63 ls (.int (oI h a 1) :: st) h := e_getI0 dX3_begins_60 rfl rfl ht
theorem wX3_begins_63 (ht : oT h a = 40) (hi : xix x (oN h a) = true) : E_ d mX3_begins 63 ls (.int y :: .int x :: .ref a :: st) h = E_ d mX3_begins 64 ls st (pI h a (va_up (oI h a) x.toNatClampNeg y)) := e_iast dX3_begins_63 rfl ht hi
theorem wX3_begins_64 : E_ d mX3_begins 64 [.val (.ref a), s1, s2] st h = E_ d mX3_begins 65 [.val (.ref a), s1, s2] (.ref a :: st) h := e_go dX3_begins_64 rfl rfl
theorem wX3_begins_65 (ht : oT h a = 5) : E_ d mX3_begins 65 ls (.ref a :: st) h = E_ d mX3_begins 68 ls (va_rf (oR h a 1) :: st) h := e_getR0 dX3_begins_65 rfl rfl ht
theorem wX3_begins_68 : E_ d mX3_begins 68 [s0, s1, .val (.int x)] st h = E_ d mX3_begins 69 [s0, s1, .val (.int x)] (.int x :: st) h := e_go dX3_begins_68 rfl rfl
theorem wX3_begins_69 : E_ d mX3_begins 69 [s0, .val (.ref a), s2] st h = E_ d mX3_begins 70 [s0, .val (.ref a), s2] (.ref a :: st) h := e_go dX3_begins_69 rfl rfl
theorem wX3_begins_70 : E_ d mX3_begins 70 [s0, s1, .val (.int x)] st h = E_ d mX3_begins 71 [s0, s1, .val (.int x)] (.int x :: st) h := e_go dX3_begins_70 rfl rfl
theorem wX3_begins_71 (ht : oT h a = 3) : E_ (d + 1) mX3_begins 71 ls [.int x1, .ref a, .int x2, .ref r1] h = (C_ d mX2_pace [.ref a, .int x1] h).bind fun r => E_ (d + 1) mX3_begins 74 ls (xpu r.1 [.int x2, .ref r1]) r.2 := e_vir dX3_begins_71 rfl rfl rfl rfl rfl rfl (Nat.le_of_ble_eq_true rfl) (Nat.le_of_ble_eq_true rfl) ht
theorem wX3_begins_74 (ht : oT h a = 40) (hi : xix x (oN h a) = true) : E_ d mX3_begins 74 ls (.int y :: .int x :: .ref a :: st) h = E_ d mX3_begins 75 ls st (pI h a (va_up (oI h a) x.toNatClampNeg y)) := e_iast dX3_begins_74 rfl ht hi
theorem wX3_begins_75 : E_ d mX3_begins 75 [.val (.ref a), s1, s2] st h = E_ d mX3_begins 76 [.val (.ref a), s1, s2] (.ref a :: st) h := e_go dX3_begins_75 rfl rfl
theorem wX3_begins_76 (ht : oT h a = 5) : E_ d mX3_begins 76 ls (.ref a :: st) h = E_ d mX3_begins 79 ls (va_rf (oR h a 2) :: st) h := e_getR0 dX3_begins_76 rfl rfl ht
theorem wX3_begins_79 : E_ d mX3_begins 79 [s0, s1, .val (.int x)] st h = E_ d mX3_begins 80 [s0, s1, .val (.int x)] (.int x :: st) h := e_go dX3_begins_79 rfl rfl
theorem wX3_begins_80 : E_ d mX3_begins 80 ls st h = E_ d mX3_begins 81 ls (.int (nI 0) :: st) h := e_iconst dX3_begins_80 kiconst_0 rfl
theorem wX3_begins_81 (ht : oT h a = 40) (hi : xix x (oN h a) = true) : E_ d mX3_begins 81 ls (.int y :: .int x :: .ref a :: st) h = E_ d mX3_begins 82 ls st (pI h a (va_up (oI h a) x.toNatClampNeg y)) := e_iast dX3_begins_81 rfl ht hi
theorem wX3_begins_82 : E_ d mX3_begins 82 [.val (.ref a), s1, s2] st h = E_ d mX3_begins 83 [.val (.ref a), s1, s2] (.ref a :: st) h := e_go dX3_begins_82 rfl rfl
theorem wX3_begins_83 (ht : oT h a = 5) : E_ d mX3_begins 83 ls (.ref a :: st) h = E_ d mX3_begins 86 ls (va_rf (oR h a 3) :: st) h := e_getR0 dX3_begins_83 rfl rfl ht
theorem wX3_begins_86 : E_ d mX3_begins 86 [s0, s1, .val (.int x)] st h = E_ d mX3_begins 87 [s0, s1, .val (.int x)] (.int x :: st) h := e_go dX3_begins_86 rfl rfl
theorem wX3_begins_87 : E_ d mX3_begins 87 ls st h = E_ d mX3_begins 88 ls (.int (nI 0) :: st) h := e_iconst dX3_begins_87 kiconst_0 rfl
theorem wX3_begins_88 (ht : oT h a = 41) (hi : xix x (oN h a) = true) : E_ d mX3_begins 88 ls (.int y :: .int x :: .ref a :: st) h = E_ d mX3_begins 89 ls st (pI h a (va_up (oI h a) x.toNatClampNeg (vp_nar .byte y))) := e_bast dX3_begins_88 rfl ht hi
theorem wX3_begins_88z (ht : oT h a = 42) (hi : xix x (oN h a) = true) : E_ d mX3_begins 88 ls (.int y :: .int x :: .ref a :: st) h = E_ d mX3_begins 89 ls st (pI h a (va_up (oI h a) x.toNatClampNeg (vp_nar .boolean y))) := e_zast dX3_begins_88 rfl ht hi
theorem wX3_begins_89 : E_ d mX3_begins 89 [s0, s1, .val (.int x)] st h = E_ d mX3_begins 92 [s0, xk s1, .val (.int (x + nI 1))] st h := by rw [← kiinc_1]; exact e_go dX3_begins_89 rfl rfl
theorem wX3_begins_92 : E_ d mX3_begins 92 ls st h = E_ d mX3_begins 42 ls st h := e_gt dX3_begins_92 rfl
theorem wX3_begins_95 : E_ d mX3_begins 95 [.val (.ref a), s1, s2] st h = E_ d mX3_begins 96 [.val (.ref a), s1, s2] (.ref a :: st) h := e_go dX3_begins_95 rfl rfl
theorem wX3_begins_96 : E_ d mX3_begins 96 ls [.ref a] h = some (some (.ref a), h) := e_rt dX3_begins_96 rfl rfl
/-! FootOut$Walk.many -/
theorem wX3_many_0 : E_ d mX3_many 0 [.val (.ref a)] st h = E_ d mX3_many 1 [.val (.ref a)] (.ref a :: st) h := e_go dX3_many_0 rfl rfl
theorem wX3_many_1 (ht : oT h a = 5) : E_ d mX3_many 1 ls (.ref a :: st) h = E_ d mX3_many 4 ls (va_rf (oR h a 5) :: st) h := e_getR dX3_many_1 rfl rfl ht
theorem wX3_many_4 (ht : oT h a = 3) : E_ d mX3_many 4 ls (.ref a :: st) h = E_ d mX3_many 7 ls (va_rf (oR h a 0) :: st) h := e_getR0 dX3_many_4 rfl rfl ht
theorem wX3_many_7 (ht : oT h a = 4) : E_ (d + 1) mX3_many 7 ls [.ref a] h = (C_ d mJ2_size [.ref a] h).bind fun r => E_ (d + 1) mX3_many 10 ls (xpu r.1 []) r.2 := e_vir dX3_many_7 rfl rfl rfl rfl rfl rfl (Nat.le_of_ble_eq_true rfl) (Nat.le_of_ble_eq_true rfl) ht
theorem wX3_many_10 : E_ d mX3_many 10 ls [.int x] h = some (some (.int x), h) := e_rt dX3_many_10 rfl rfl
/-! FootOut$Walk.car -/
theorem wX3_car_0 : E_ d mX3_car 0 [.val (.ref a), s1] st h = E_ d mX3_car 1 [.val (.ref a), s1] (.ref a :: st) h := e_go dX3_car_0 rfl rfl
theorem wX3_car_1 (ht : oT h a = 5) : E_ d mX3_car 1 ls (.ref a :: st) h = E_ d mX3_car 4 ls (va_rf (oR h a 5) :: st) h := e_getR dX3_car_1 rfl rfl ht
theorem wX3_car_4 (ht : oT h a = 3) : E_ d mX3_car 4 ls (.ref a :: st) h = E_ d mX3_car 7 ls (va_rf (oR h a 0) :: st) h := e_getR0 dX3_car_4 rfl rfl ht
theorem wX3_car_7 : E_ d mX3_car 7 [s0, .val (.int x)] st h = E_ d mX3_car 8 [s0, .val (.int x)] (.int x :: st) h := e_go dX3_car_7 rfl rfl
theorem wX3_car_8 (ht : oT h a = 4) : E_ (d + 1) mX3_car 8 ls [.int x1, .ref a] h = (C_ d mJ2_get [.ref a, .int x1] h).bind fun r => E_ (d + 1) mX3_car 11 ls (xpu r.1 []) r.2 := e_vir dX3_car_8 rfl rfl rfl rfl rfl rfl (Nat.le_of_ble_eq_true rfl) (Nat.le_of_ble_eq_true rfl) ht
theorem wX3_car_11 (ht : oT h a = 9) : E_ d mX3_car 11 ls (.ref a :: st) h = E_ d mX3_car 14 ls (.ref a :: st) h := e_cast dX3_car_11 rfl rfl ht
theorem wX3_car_11n : E_ d mX3_car 11 ls (.null :: st) h = E_ d mX3_car 14 ls (.null :: st) h := e_go dX3_car_11 rfl rfl
theorem wX3_car_14 : E_ d mX3_car 14 ls [.ref a] h = some (some (.ref a), h) := e_rt dX3_car_14 rfl rfl
/-! FootOut$Walk.can -/
theorem wX3_can_0 : E_ d mX3_can 0 [.val (.ref a), s1] st h = E_ d mX3_can 1 [.val (.ref a), s1] (.ref a :: st) h := e_go dX3_can_0 rfl rfl
theorem wX3_can_1 (ht : oT h a = 5) : E_ d mX3_can 1 ls (.ref a :: st) h = E_ d mX3_can 4 ls (va_rf (oR h a 1) :: st) h := e_getR0 dX3_can_1 rfl rfl ht
theorem wX3_can_4 : E_ d mX3_can 4 [s0, .val (.int x)] st h = E_ d mX3_can 5 [s0, .val (.int x)] (.int x :: st) h := e_go dX3_can_4 rfl rfl
theorem wX3_can_5 (ht : oT h a = 40) (hi : xix x (oN h a) = true) : E_ d mX3_can 5 ls (.int x :: .ref a :: st) h = E_ d mX3_can 6 ls (.int (oI h a x.toNatClampNeg) :: st) h := e_iald dX3_can_5 rfl ht hi
theorem wX3_can_6 : E_ d mX3_can 6 [.val (.ref a), s1] st h = E_ d mX3_can 7 [.val (.ref a), s1] (.ref a :: st) h := e_go dX3_can_6 rfl rfl
theorem wX3_can_7 (ht : oT h a = 5) : E_ d mX3_can 7 ls (.ref a :: st) h = E_ d mX3_can 10 ls (va_rf (oR h a 1) :: st) h := e_getR0 dX3_can_7 rfl rfl ht
theorem wX3_can_10 : E_ d mX3_can 10 [s0, .val (.int x)] st h = E_ d mX3_can 11 [s0, .val (.int x)] (.int x :: st) h := e_go dX3_can_10 rfl rfl
theorem wX3_can_11 (ht : oT h a = 40) (hi : xix x (oN h a) = true) : E_ d mX3_can 11 ls (.int x :: .ref a :: st) h = E_ d mX3_can 12 ls (.int (oI h a x.toNatClampNeg) :: st) h := e_iald dX3_can_11 rfl ht hi
theorem wX3_can_12 : E_ d mX3_can 12 ls st h = E_ d mX3_can 13 ls (.int (nI 1) :: st) h := e_iconst dX3_can_12 kiconst_1 rfl
theorem wX3_can_13 : E_ d mX3_can 13 ls (.int y :: .int x :: st) h = E_ d mX3_can 14 ls (.int (x - y) :: st) h := e_go dX3_can_13 rfl rfl
theorem wX3_can_14 : E_ d mX3_can 14 ls (.int y :: .int x :: st) h = E_ d mX3_can 15 ls (.int (x * y) :: st) h := e_go dX3_can_14 rfl rfl
theorem wX3_can_15 : E_ d mX3_can 15 ls st h = E_ d mX3_can 16 ls (.int (nI 2) :: st) h := e_iconst dX3_can_15 kiconst_2 rfl
theorem wX3_can_16 (hy : ¬ y = 0) : E_ d mX3_can 16 ls (.int y :: .int x :: st) h = E_ d mX3_can 17 ls (.int (x / y) :: st) h := e_div dX3_can_16 rfl hy
theorem wX3_can_17 : E_ d mX3_can 17 [.val (.ref a), s1] st h = E_ d mX3_can 18 [.val (.ref a), s1] (.ref a :: st) h := e_go dX3_can_17 rfl rfl
theorem wX3_can_18 (ht : oT h a = 5) : E_ d mX3_can 18 ls (.ref a :: st) h = E_ d mX3_can 21 ls (va_rf (oR h a 0) :: st) h := e_getR0 dX3_can_18 rfl rfl ht
theorem wX3_can_21 : E_ d mX3_can 21 [s0, .val (.int x)] st h = E_ d mX3_can 22 [s0, .val (.int x)] (.int x :: st) h := e_go dX3_can_21 rfl rfl
theorem wX3_can_22 (ht : oT h a = 40) (hi : xix x (oN h a) = true) : E_ d mX3_can 22 ls (.int x :: .ref a :: st) h = E_ d mX3_can 23 ls (.int (oI h a x.toNatClampNeg) :: st) h := e_iald dX3_can_22 rfl ht hi
theorem wX3_can_23 : E_ d mX3_can 23 [.val (.ref a), s1] st h = E_ d mX3_can 24 [.val (.ref a), s1] (.ref a :: st) h := e_go dX3_can_23 rfl rfl
theorem wX3_can_24 (ht : oT h a = 5) : E_ d mX3_can 24 ls (.ref a :: st) h = E_ d mX3_can 27 ls (va_rf (oR h a 5) :: st) h := e_getR dX3_can_24 rfl rfl ht
theorem wX3_can_27 (ht : oT h a = 3) : E_ d mX3_can 27 ls (.ref a :: st) h = E_ d mX3_can 30 ls (.int (oI h a 3) :: st) h := e_getI dX3_can_27 rfl rfl ht
theorem wX3_can_30 : E_ d mX3_can 30 ls (.int y :: .int x :: st) h = E_ d mX3_can 31 ls (.int (x - y) :: st) h := e_go dX3_can_30 rfl rfl
theorem wX3_can_31 : E_ d mX3_can 31 ls (.int y :: .int x :: st) h = if y < x then E_ d mX3_can 38 ls st h else E_ d mX3_can 34 ls st h := e_igt dX3_can_31 rfl rfl
theorem wX3_can_34 : E_ d mX3_can 34 ls st h = E_ d mX3_can 35 ls (.int (nI 1) :: st) h := e_iconst dX3_can_34 kiconst_1 rfl
theorem wX3_can_35 : E_ d mX3_can 35 ls st h = E_ d mX3_can 39 ls st h := e_gt dX3_can_35 rfl
theorem wX3_can_38 : E_ d mX3_can 38 ls st h = E_ d mX3_can 39 ls (.int (nI 0) :: st) h := e_iconst dX3_can_38 kiconst_0 rfl
theorem wX3_can_39 (hx : x = 0 ∨ x = 1) : E_ d mX3_can 39 ls [.int x] h = some (some (.int x), h) := e_rtZ dX3_can_39 rfl hx
/-! FootOut$Walk.isAsked -/
theorem wX3_isAsked_0 : E_ d mX3_isAsked 0 [.val (.ref a), s1] st h = E_ d mX3_isAsked 1 [.val (.ref a), s1] (.ref a :: st) h := e_go dX3_isAsked_0 rfl rfl
theorem wX3_isAsked_1 (ht : oT h a = 5) : E_ d mX3_isAsked 1 ls (.ref a :: st) h = E_ d mX3_isAsked 4 ls (va_rf (oR h a 2) :: st) h := e_getR0 dX3_isAsked_1 rfl rfl ht
theorem wX3_isAsked_4 : E_ d mX3_isAsked 4 [s0, .val (.int x)] st h = E_ d mX3_isAsked 5 [s0, .val (.int x)] (.int x :: st) h := e_go dX3_isAsked_4 rfl rfl
theorem wX3_isAsked_5 (ht : oT h a = 40) (hi : xix x (oN h a) = true) : E_ d mX3_isAsked 5 ls (.int x :: .ref a :: st) h = E_ d mX3_isAsked 6 ls (.int (oI h a x.toNatClampNeg) :: st) h := e_iald dX3_isAsked_5 rfl ht hi
theorem wX3_isAsked_6 : E_ d mX3_isAsked 6 ls (.int x :: st) h = if x = 0 then E_ d mX3_isAsked 9 ls st h else E_ d mX3_isAsked 35 ls st h := e_zne dX3_isAsked_6 rfl rfl
theorem wX3_isAsked_9 : E_ d mX3_isAsked 9 [.val (.ref a), s1] st h = E_ d mX3_isAsked 10 [.val (.ref a), s1] (.ref a :: st) h := e_go dX3_isAsked_9 rfl rfl
theorem wX3_isAsked_10 (ht : oT h a = 5) : E_ d mX3_isAsked 10 ls (.ref a :: st) h = E_ d mX3_isAsked 13 ls (va_rf (oR h a 0) :: st) h := e_getR0 dX3_isAsked_10 rfl rfl ht
theorem wX3_isAsked_13 : E_ d mX3_isAsked 13 [s0, .val (.int x)] st h = E_ d mX3_isAsked 14 [s0, .val (.int x)] (.int x :: st) h := e_go dX3_isAsked_13 rfl rfl
theorem wX3_isAsked_14 (ht : oT h a = 40) (hi : xix x (oN h a) = true) : E_ d mX3_isAsked 14 ls (.int x :: .ref a :: st) h = E_ d mX3_isAsked 15 ls (.int (oI h a x.toNatClampNeg) :: st) h := e_iald dX3_isAsked_14 rfl ht hi
theorem wX3_isAsked_15 : E_ d mX3_isAsked 15 ls (.int x :: st) h = E_ d mX3_isAsked 16 ls (.long x.toInt64 :: st) h := e_go dX3_isAsked_15 rfl rfl
theorem wX3_isAsked_16 : E_ d mX3_isAsked 16 ls st h = E_ d mX3_isAsked 17 ls (.long 1 :: st) h := e_go dX3_isAsked_16 rfl rfl
theorem wX3_isAsked_17 : E_ d mX3_isAsked 17 [.val (.ref a), s1] st h = E_ d mX3_isAsked 18 [.val (.ref a), s1] (.ref a :: st) h := e_go dX3_isAsked_17 rfl rfl
theorem wX3_isAsked_18 (ht : oT h a = 5) : E_ d mX3_isAsked 18 ls (.ref a :: st) h = E_ d mX3_isAsked 21 ls (va_rf (oR h a 5) :: st) h := e_getR dX3_isAsked_18 rfl rfl ht
theorem wX3_isAsked_21 (ht : oT h a = 3) : E_ d mX3_isAsked 21 ls (.ref a :: st) h = E_ d mX3_isAsked 24 ls (.int (oI h a 6) :: st) h := e_getI dX3_isAsked_21 rfl rfl ht
theorem wX3_isAsked_24 : E_ d mX3_isAsked 24 ls (.int x :: st) h = E_ d mX3_isAsked 25 ls (.long x.toInt64 :: st) h := e_go dX3_isAsked_24 rfl rfl
theorem wX3_isAsked_25 : E_ (d + 1) mX3_isAsked 25 ls [.long u3, .long u2, .long u1] h = (C_ d mX0_in [.long u1, .long u2, .long u3] h).bind fun r => E_ (d + 1) mX3_isAsked 28 ls (xpu r.1 []) r.2 := e_call dX3_isAsked_25 rfl rfl
theorem wX3_isAsked_28 : E_ d mX3_isAsked 28 ls (.int x :: st) h = if x = 0 then E_ d mX3_isAsked 35 ls st h else E_ d mX3_isAsked 31 ls st h := e_zeq dX3_isAsked_28 rfl rfl
theorem wX3_isAsked_31 : E_ d mX3_isAsked 31 ls st h = E_ d mX3_isAsked 32 ls (.int (nI 1) :: st) h := e_iconst dX3_isAsked_31 kiconst_1 rfl
theorem wX3_isAsked_32 : E_ d mX3_isAsked 32 ls st h = E_ d mX3_isAsked 36 ls st h := e_gt dX3_isAsked_32 rfl
theorem wX3_isAsked_35 : E_ d mX3_isAsked 35 ls st h = E_ d mX3_isAsked 36 ls (.int (nI 0) :: st) h := e_iconst dX3_isAsked_35 kiconst_0 rfl
theorem wX3_isAsked_36 (hx : x = 0 ∨ x = 1) : E_ d mX3_isAsked 36 ls [.int x] h = some (some (.int x), h) := e_rtZ dX3_isAsked_36 rfl hx
/-! FootOut$Walk.goesOn -/
theorem wX3_goesOn_0 : E_ d mX3_goesOn 0 [.val (.ref a), s1, s2, s3, s4] st h = E_ d mX3_goesOn 1 [.val (.ref a), s1, s2, s3, s4] (.ref a :: st) h := e_go dX3_goesOn_0 rfl rfl
theorem wX3_goesOn_1 (ht : oT h a = 5) : E_ d mX3_goesOn 1 ls (.ref a :: st) h = E_ d mX3_goesOn 4 ls (.int (oI h a 7) :: st) h := e_getI dX3_goesOn_1 rfl rfl ht
theorem wX3_goesOn_4 : E_ d mX3_goesOn 4 ls (.int x :: st) h = if x = 0 then E_ d mX3_goesOn 7 ls st h else E_ d mX3_goesOn 58 ls st h := e_zne dX3_goesOn_4 rfl rfl
theorem wX3_goesOn_7 : E_ d mX3_goesOn 7 [.val (.ref a), s1, s2, s3, s4] st h = E_ d mX3_goesOn 8 [.val (.ref a), s1, s2, s3, s4] (.ref a :: st) h := e_go dX3_goesOn_7 rfl rfl
theorem wX3_goesOn_8 (ht : oT h a = 5) : E_ (d + 1) mX3_goesOn 8 ls [.ref a] h = (C_ d mX3_isFree [.ref a] h).bind fun r => E_ (d + 1) mX3_goesOn 11 ls (xpu r.1 []) r.2 := e_vir dX3_goesOn_8 rfl rfl rfl rfl rfl rfl (Nat.le_of_ble_eq_true rfl) (Nat.le_of_ble_eq_true rfl) ht
theorem wX3_goesOn_11 : E_ d mX3_goesOn 11 ls (.int x :: st) h = if x = 0 then E_ d mX3_goesOn 14 ls st h else E_ d mX3_goesOn 35 ls st h := e_zne dX3_goesOn_11 rfl rfl
theorem wX3_goesOn_14 : E_ d mX3_goesOn 14 [.val (.ref a), s1, s2, s3, s4] st h = E_ d mX3_goesOn 15 [.val (.ref a), s1, s2, s3, s4] (.ref a :: st) h := e_go dX3_goesOn_14 rfl rfl
theorem wX3_goesOn_15 (ht : oT h a = 5) : E_ (d + 1) mX3_goesOn 15 ls [.ref a] h = (C_ d mX3_isAtKerb [.ref a] h).bind fun r => E_ (d + 1) mX3_goesOn 18 ls (xpu r.1 []) r.2 := e_vir dX3_goesOn_15 rfl rfl rfl rfl rfl rfl (Nat.le_of_ble_eq_true rfl) (Nat.le_of_ble_eq_true rfl) ht
theorem wX3_goesOn_18 : E_ d mX3_goesOn 18 ls (.int x :: st) h = if x = 0 then E_ d mX3_goesOn 58 ls st h else E_ d mX3_goesOn 21 ls st h := e_zeq dX3_goesOn_18 rfl rfl
theorem wX3_goesOn_21 : E_ d mX3_goesOn 21 [.val (.ref a), s1, s2, s3, s4] st h = E_ d mX3_goesOn 22 [.val (.ref a), s1, s2, s3, s4] (.ref a :: st) h := e_go dX3_goesOn_21 rfl rfl
theorem wX3_goesOn_22 (ht : oT h a = 5) : E_ d mX3_goesOn 22 ls (.ref a :: st) h = E_ d mX3_goesOn 25 ls (.int (oI h a 8) :: st) h := e_getI dX3_goesOn_22 rfl rfl ht
theorem wX3_goesOn_25 : E_ d mX3_goesOn 25 [.val (.ref a), s1, s2, s3, s4] st h = E_ d mX3_goesOn 26 [.val (.ref a), s1, s2, s3, s4] (.ref a :: st) h := e_go dX3_goesOn_25 rfl rfl
theorem wX3_goesOn_26 (ht : oT h a = 5) : E_ d mX3_goesOn 26 ls (.ref a :: st) h = E_ d mX3_goesOn 29 ls (va_rf (oR h a 5) :: st) h := e_getR dX3_goesOn_26 rfl rfl ht
theorem wX3_goesOn_29 (ht : oT h a = 3) : E_ d mX3_goesOn 29 ls (.ref a :: st) h = E_ d mX3_goesOn 32 ls (.int (oI h a 5) :: st) h := e_getI dX3_goesOn_29 rfl rfl ht
theorem wX3_goesOn_32 : E_ d mX3_goesOn 32 ls (.int y :: .int x :: st) h = if x < y then E_ d mX3_goesOn 58 ls st h else E_ d mX3_goesOn 35 ls st h := e_ilt dX3_goesOn_32 rfl rfl
theorem wX3_goesOn_35 : E_ d mX3_goesOn 35 [.val (.ref a), s1, s2, s3, s4] st h = E_ d mX3_goesOn 36 [.val (.ref a), s1, s2, s3, s4] (.ref a :: st) h := e_go dX3_goesOn_35 rfl rfl
theorem wX3_goesOn_36 : E_ d mX3_goesOn 36 [.val (.ref a), s1, s2, s3, s4] st h = E_ d mX3_goesOn 37 [.val (.ref a), s1, s2, s3, s4] (.ref a :: st) h := e_go dX3_goesOn_36 rfl rfl
theorem wX3_goesOn_37 (ht : oT h a = 5) : E_ d mX3_goesOn 37 ls (.ref a :: st) h = E_ d mX3_goesOn 40 ls (va_rf (oR h a 5) :: st) h := e_getR dX3_goesOn_37 rfl rfl ht
theorem wX3_goesOn_40 (ht : oT h a = 3) : E_ d mX3_goesOn 40 ls (.ref a :: st) h = E_ d mX3_goesOn 43 ls (.int (oI h a 2) :: st) h := e_getI dX3_goesOn_40 rfl rfl ht
theorem wX3_goesOn_43 : E_ d mX3_goesOn 43 ls st h = E_ d mX3_goesOn 44 ls (.int (nI 0) :: st) h := e_iconst dX3_goesOn_43 kiconst_0 rfl
theorem wX3_goesOn_44 : E_ (d + 1) mX3_goesOn 44 ls [.int x2, .int x1, .ref r1] h = (C_ d mX0_has [.int x1, .int x2] h).bind fun r => E_ (d + 1) mX3_goesOn 47 ls (xpu r.1 [.ref r1]) r.2 := e_call dX3_goesOn_44 rfl rfl
theorem wX3_goesOn_47 : E_ d mX3_goesOn 47 ls (.int x :: st) h = if x = 0 then E_ d mX3_goesOn 54 ls st h else E_ d mX3_goesOn 50 ls st h := e_zeq dX3_goesOn_47 rfl rfl
theorem wX3_goesOn_50 : E_ d mX3_goesOn 50 ls st h = E_ d mX3_goesOn 51 ls (.int (nI 2) :: st) h := e_iconst dX3_goesOn_50 kiconst_2 rfl
theorem wX3_goesOn_51 : E_ d mX3_goesOn 51 ls st h = E_ d mX3_goesOn 55 ls st h := e_gt dX3_goesOn_51 rfl
theorem wX3_goesOn_54 : E_ d mX3_goesOn 54 ls st h = E_ d mX3_goesOn 55 ls (.int (nI 1) :: st) h := e_iconst dX3_goesOn_54 kiconst_1 rfl
theorem wX3_goesOn_55 (ht : oT h a = 5) : E_ d mX3_goesOn 55 ls (.int x :: .ref a :: st) h = E_ d mX3_goesOn 58 ls st (pI h a (va_up (oI h a) 7 x)) := e_putI dX3_goesOn_55 rfl rfl ht
theorem wX3_goesOn_58 : E_ d mX3_goesOn 58 ls st h = E_ d mX3_goesOn 59 ls (.int ((-1)) :: st) h := e_iconst dX3_goesOn_58 kiconst_m1 rfl
theorem wX3_goesOn_59 : E_ d mX3_goesOn 59 [s0, s1, s2, s3, s4] (.int x :: st) h = E_ d mX3_goesOn 60 [xk s0, .val (.int x), s2, s3, s4] st h := e_go dX3_goesOn_59 rfl rfl
theorem wX3_goesOn_60 : E_ d mX3_goesOn 60 [.val (.ref a), s1, s2, s3, s4] st h = E_ d mX3_goesOn 61 [.val (.ref a), s1, s2, s3, s4] (.ref a :: st) h := e_go dX3_goesOn_60 rfl rfl
theorem wX3_goesOn_61 (ht : oT h a = 5) : E_ d mX3_goesOn 61 ls (.ref a :: st) h = E_ d mX3_goesOn 64 ls (.int (oI h a 7) :: st) h := e_getI dX3_goesOn_61 rfl rfl ht
theorem wX3_goesOn_64 : E_ d mX3_goesOn 64 ls (.int x :: st) h = if 0 < x then E_ d mX3_goesOn 67 ls st h else E_ d mX3_goesOn 74 ls st h := e_zle dX3_goesOn_64 rfl rfl
theorem wX3_goesOn_67 : E_ d mX3_goesOn 67 [.val (.ref a), s1, s2, s3, s4] st h = E_ d mX3_goesOn 68 [.val (.ref a), s1, s2, s3, s4] (.ref a :: st) h := e_go dX3_goesOn_67 rfl rfl
theorem wX3_goesOn_68 (ht : oT h a = 5) : E_ d mX3_goesOn 68 ls (.ref a :: st) h = E_ d mX3_goesOn 71 ls (.int (oI h a 6) :: st) h := e_getI dX3_goesOn_68 rfl rfl ht
theorem wX3_goesOn_71 : E_ d mX3_goesOn 71 ls st h = E_ d mX3_goesOn 75 ls st h := e_gt dX3_goesOn_71 rfl
theorem wX3_goesOn_74 : E_ d mX3_goesOn 74 ls st h = E_ d mX3_goesOn 75 ls (.int ((-1)) :: st) h := e_iconst dX3_goesOn_74 kiconst_m1 rfl
theorem wX3_goesOn_75 : E_ d mX3_goesOn 75 [s0, s1, s2, s3, s4] (.int x :: st) h = E_ d mX3_goesOn 76 [s0, xk s1, .val (.int x), s3, s4] st h := e_go dX3_goesOn_75 rfl rfl
theorem wX3_goesOn_76 : E_ d mX3_goesOn 76 ls st h = E_ d mX3_goesOn 77 ls (.int (nI 0) :: st) h := e_iconst dX3_goesOn_76 kiconst_0 rfl
theorem wX3_goesOn_77 : E_ d mX3_goesOn 77 [s0, s1, s2, s3, s4] (.int x :: st) h = E_ d mX3_goesOn 78 [s0, s1, xk s2, .val (.int x), s4] st h := e_go dX3_goesOn_77 rfl rfl
theorem wX3_goesOn_78 : E_ d mX3_goesOn 78 [s0, s1, s2, .val (.int x), s4] st h = E_ d mX3_goesOn 79 [s0, s1, s2, .val (.int x), s4] (.int x :: st) h := e_go dX3_goesOn_78 rfl rfl
theorem wX3_goesOn_79 : E_ d mX3_goesOn 79 [.val (.ref a), s1, s2, s3, s4] st h = E_ d mX3_goesOn 80 [.val (.ref a), s1, s2, s3, s4] (.ref a :: st) h := e_go dX3_goesOn_79 rfl rfl
theorem wX3_goesOn_80 (ht : oT h a = 5) : E_ d mX3_goesOn 80 ls (.ref a :: st) h = E_ d mX3_goesOn 83 ls (va_rf (oR h a 5) :: st) h := e_getR dX3_goesOn_80 rfl rfl ht
theorem wX3_goesOn_83 (ht : oT h a = 3) : E_ d mX3_goesOn 83 ls (.ref a :: st) h = E_ d mX3_goesOn 86 ls (.int (oI h a 1) :: st) h := e_getI dX3_goesOn_83 rfl rfl ht
theorem wX3_goesOn_86 : E_ d mX3_goesOn 86 ls (.int y :: .int x :: st) h = if x < y then E_ d mX3_goesOn 89 ls st h else E_ d mX3_goesOn 114 ls st h := e_ige dX3_goesOn_86 rfl rfl
theorem wX3_goesOn_89 : E_ d mX3_goesOn 89 [.val (.ref a), s1, s2, s3, s4] st h = E_ d mX3_goesOn 90 [.val (.ref a), s1, s2, s3, s4] (.ref a :: st) h := e_go dX3_goesOn_89 rfl rfl
theorem wX3_goesOn_90 : E_ d mX3_goesOn 90 [s0, s1, s2, .val (.int x), s4] st h = E_ d mX3_goesOn 91 [s0, s1, s2, .val (.int x), s4] (.int x :: st) h := e_go dX3_goesOn_90 rfl rfl
theorem wX3_goesOn_91 (ht : oT h a = 5) : E_ (d + 1) mX3_goesOn 91 ls [.int x1, .ref a] h = (C_ d mX3_moves [.ref a, .int x1] h).bind fun r => E_ (d + 1) mX3_goesOn 94 ls (xpu r.1 []) r.2 := e_vir dX3_goesOn_91 rfl rfl rfl rfl rfl rfl (Nat.le_of_ble_eq_true rfl) (Nat.le_of_ble_eq_true rfl) ht
theorem wX3_goesOn_94 : E_ d mX3_goesOn 94 [s0, s1, s2, s3, s4] (.int x :: st) h = E_ d mX3_goesOn 96 [s0, s1, s2, xk s3, .val (.int x)] st h := e_go dX3_goesOn_94 rfl rfl
theorem wX3_goesOn_96 : E_ d mX3_goesOn 96 [s0, s1, s2, .val (.int x), s4] st h = E_ d mX3_goesOn 97 [s0, s1, s2, .val (.int x), s4] (.int x :: st) h := e_go dX3_goesOn_96 rfl rfl
theorem wX3_goesOn_97 : E_ d mX3_goesOn 97 [s0, s1, .val (.int x), s3, s4] st h = E_ d mX3_goesOn 98 [s0, s1, .val (.int x), s3, s4] (.int x :: st) h := e_go dX3_goesOn_97 rfl rfl
theorem wX3_goesOn_98 : E_ d mX3_goesOn 98 ls (.int y :: .int x :: st) h = if x = y then E_ d mX3_goesOn 101 ls st h else E_ d mX3_goesOn 106 ls st h := e_ine dX3_goesOn_98 rfl rfl
theorem wX3_goesOn_101 : E_ d mX3_goesOn 101 [s0, s1, s2, s3, .val (.int x)] st h = E_ d mX3_goesOn 103 [s0, s1, s2, s3, .val (.int x)] (.int x :: st) h := e_go dX3_goesOn_101 rfl rfl
theorem wX3_goesOn_103 : E_ d mX3_goesOn 103 ls st h = E_ d mX3_goesOn 107 ls st h := e_gt dX3_goesOn_103 rfl
theorem wX3_goesOn_106 : E_ d mX3_goesOn 106 [s0, .val (.int x), s2, s3, s4] st h = E_ d mX3_goesOn 107 [s0, .val (.int x), s2, s3, s4] (.int x :: st) h := e_go dX3_goesOn_106 rfl rfl
theorem wX3_goesOn_107 : E_ d mX3_goesOn 107 [s0, s1, s2, s3, s4] (.int x :: st) h = E_ d mX3_goesOn 108 [xk s0, .val (.int x), s2, s3, s4] st h := e_go dX3_goesOn_107 rfl rfl
theorem wX3_goesOn_108 : E_ d mX3_goesOn 108 [s0, s1, s2, .val (.int x), s4] st h = E_ d mX3_goesOn 111 [s0, s1, xk s2, .val (.int (x + nI 1)), s4] st h := by rw [← kiinc_1]; exact e_go dX3_goesOn_108 rfl rfl
theorem wX3_goesOn_111 : E_ d mX3_goesOn 111 ls st h = E_ d mX3_goesOn 78 ls st h := e_gt dX3_goesOn_111 rfl
theorem wX3_goesOn_114 : E_ d mX3_goesOn 114 [.val (.ref a), s1, s2, s3, s4] st h = E_ d mX3_goesOn 115 [.val (.ref a), s1, s2, s3, s4] (.ref a :: st) h := e_go dX3_goesOn_114 rfl rfl
theorem wX3_goesOn_115 (ht : oT h a = 5) : E_ d mX3_goesOn 115 ls (.ref a :: st) h = E_ d mX3_goesOn 118 ls (.int (oI h a 7) :: st) h := e_getI dX3_goesOn_115 rfl rfl ht
theorem wX3_goesOn_118 : E_ d mX3_goesOn 118 ls (.int x :: st) h = if 0 < x then E_ d mX3_goesOn 121 ls st h else E_ d mX3_goesOn 126 ls st h := e_zle dX3_goesOn_118 rfl rfl
theorem wX3_goesOn_121 : E_ d mX3_goesOn 121 [.val (.ref a), s1, s2, s3, s4] st h = E_ d mX3_goesOn 122 [.val (.ref a), s1, s2, s3, s4] (.ref a :: st) h := e_go dX3_goesOn_121 rfl rfl
theorem wX3_goesOn_122 : E_ d mX3_goesOn 122 [s0, .val (.int x), s2, s3, s4] st h = E_ d mX3_goesOn 123 [s0, .val (.int x), s2, s3, s4] (.int x :: st) h := e_go dX3_goesOn_122 rfl rfl
theorem wX3_goesOn_123 (ht : oT h a = 5) : E_ (d + 1) mX3_goesOn 123 ls [.int x1, .ref a] h = (C_ d mX3_crosses [.ref a, .int x1] h).bind fun r => E_ (d + 1) mX3_goesOn 126 ls (xpu r.1 []) r.2 := e_vir dX3_goesOn_123 rfl rfl rfl rfl rfl rfl (Nat.le_of_ble_eq_true rfl) (Nat.le_of_ble_eq_true rfl) ht
theorem wX3_goesOn_126 : E_ d mX3_goesOn 126 [.val (.ref a), s1, s2, s3, s4] st h = E_ d mX3_goesOn 127 [.val (.ref a), s1, s2, s3, s4] (.ref a :: st) h := e_go dX3_goesOn_126 rfl rfl
theorem wX3_goesOn_127 : E_ d mX3_goesOn 127 ls (.ref a :: st) h = E_ d mX3_goesOn 128 ls (.ref a :: .ref a :: st) h := e_go dX3_goesOn_127 rfl rfl
theorem wX3_goesOn_128 (ht : oT h a = 5) : E_ d mX3_goesOn 128 ls (.ref a :: st) h = E_ d mX3_goesOn 131 ls (.int (oI h a 8) :: st) h := e_getI dX3_goesOn_128 rfl rfl ht
theorem wX3_goesOn_131 : E_ d mX3_goesOn 131 [.val (.ref a), s1, s2, s3, s4] st h = E_ d mX3_goesOn 132 [.val (.ref a), s1, s2, s3, s4] (.ref a :: st) h := e_go dX3_goesOn_131 rfl rfl
theorem wX3_goesOn_132 (ht : oT h a = 5) : E_ (d + 1) mX3_goesOn 132 ls [.ref a, .int x1, .ref r1] h = (C_ d mX3_isAtKerb [.ref a] h).bind fun r => E_ (d + 1) mX3_goesOn 135 ls (xpu r.1 [.int x1, .ref r1]) r.2 := e_vir dX3_goesOn_132 rfl rfl rfl rfl rfl rfl (Nat.le_of_ble_eq_true rfl) (Nat.le_of_ble_eq_true rfl) ht
theorem wX3_goesOn_135 : E_ d mX3_goesOn 135 ls (.int x :: st) h = if x = 0 then E_ d mX3_goesOn 142 ls st h else E_ d mX3_goesOn 138 ls st h := e_zeq dX3_goesOn_135 rfl rfl
theorem wX3_goesOn_138 : E_ d mX3_goesOn 138 ls st h = E_ d mX3_goesOn 139 ls (.int (nI 1) :: st) h := e_iconst dX3_goesOn_138 kiconst_1 rfl
theorem wX3_goesOn_139 : E_ d mX3_goesOn 139 ls st h = E_ d mX3_goesOn 143 ls st h := e_gt dX3_goesOn_139 rfl
theorem wX3_goesOn_142 : E_ d mX3_goesOn 142 ls st h = E_ d mX3_goesOn 143 ls (.int (nI 0) :: st) h := e_iconst dX3_goesOn_142 kiconst_0 rfl
theorem wX3_goesOn_143 : E_ d mX3_goesOn 143 ls (.int y :: .int x :: st) h = E_ d mX3_goesOn 144 ls (.int (x + y) :: st) h := e_go dX3_goesOn_143 rfl rfl
theorem wX3_goesOn_144 (ht : oT h a = 5) : E_ d mX3_goesOn 144 ls (.int x :: .ref a :: st) h = E_ d mX3_goesOn 147 ls st (pI h a (va_up (oI h a) 8 x)) := e_putI dX3_goesOn_144 rfl rfl ht
theorem wX3_goesOn_147 : E_ d mX3_goesOn 147 [.val (.ref a), s1, s2, s3, s4] st h = E_ d mX3_goesOn 148 [.val (.ref a), s1, s2, s3, s4] (.ref a :: st) h := e_go dX3_goesOn_147 rfl rfl
theorem wX3_goesOn_148 : E_ d mX3_goesOn 148 ls (.ref a :: st) h = E_ d mX3_goesOn 149 ls (.ref a :: .ref a :: st) h := e_go dX3_goesOn_148 rfl rfl
theorem wX3_goesOn_149 (ht : oT h a = 5) : E_ d mX3_goesOn 149 ls (.ref a :: st) h = E_ d mX3_goesOn 152 ls (.int (oI h a 9) :: st) h := e_getI dX3_goesOn_149 rfl rfl ht
theorem wX3_goesOn_152 : E_ d mX3_goesOn 152 ls st h = E_ d mX3_goesOn 153 ls (.int (nI 1) :: st) h := e_iconst dX3_goesOn_152 kiconst_1 rfl
theorem wX3_goesOn_153 : E_ d mX3_goesOn 153 ls (.int y :: .int x :: st) h = E_ d mX3_goesOn 154 ls (.int (x + y) :: st) h := e_go dX3_goesOn_153 rfl rfl
theorem wX3_goesOn_154 (ht : oT h a = 5) : E_ d mX3_goesOn 154 ls (.int x :: .ref a :: st) h = E_ d mX3_goesOn 157 ls st (pI h a (va_up (oI h a) 9 x)) := e_putI dX3_goesOn_154 rfl rfl ht
theorem wX3_goesOn_157 : E_ d mX3_goesOn 157 [.val (.ref a), s1, s2, s3, s4] st h = E_ d mX3_goesOn 158 [.val (.ref a), s1, s2, s3, s4] (.ref a :: st) h := e_go dX3_goesOn_157 rfl rfl
theorem wX3_goesOn_158 (ht : oT h a = 5) : E_ d mX3_goesOn 158 ls (.ref a :: st) h = E_ d mX3_goesOn 161 ls (.int (oI h a 10) :: st) h := e_getI dX3_goesOn_158 rfl rfl ht
theorem wX3_goesOn_161 : E_ d mX3_goesOn 161 ls (.int x :: st) h = if x = 0 then E_ d mX3_goesOn 164 ls st h else E_ d mX3_goesOn 178 ls st h := e_zne dX3_goesOn_161 rfl rfl
theorem wX3_goesOn_164 : E_ d mX3_goesOn 164 [.val (.ref a), s1, s2, s3, s4] st h = E_ d mX3_goesOn 165 [.val (.ref a), s1, s2, s3, s4] (.ref a :: st) h := e_go dX3_goesOn_164 rfl rfl
theorem wX3_goesOn_165 (ht : oT h a = 5) : E_ d mX3_goesOn 165 ls (.ref a :: st) h = E_ d mX3_goesOn 168 ls (.int (oI h a 9) :: st) h := e_getI dX3_goesOn_165 rfl rfl ht
theorem wX3_goesOn_168 : E_ d mX3_goesOn 168 ls st h = E_ d mX3_goesOn 170 ls (.int (nI 99) :: st) h := e_bipush dX3_goesOn_168 kbipush_99 rfl
theorem wX3_goesOn_170 : E_ d mX3_goesOn 170 ls (.int y :: .int x :: st) h = if x = y then E_ d mX3_goesOn 173 ls st h else E_ d mX3_goesOn 178 ls st h := e_ine dX3_goesOn_170 rfl rfl
theorem wX3_goesOn_173 : E_ d mX3_goesOn 173 [.val (.ref a), s1, s2, s3, s4] st h = E_ d mX3_goesOn 174 [.val (.ref a), s1, s2, s3, s4] (.ref a :: st) h := e_go dX3_goesOn_173 rfl rfl
theorem wX3_goesOn_174 : E_ d mX3_goesOn 174 ls st h = E_ d mX3_goesOn 175 ls (.int (nI 3) :: st) h := e_iconst dX3_goesOn_174 kiconst_3 rfl
theorem wX3_goesOn_175 (ht : oT h a = 5) : E_ d mX3_goesOn 175 ls (.int x :: .ref a :: st) h = E_ d mX3_goesOn 178 ls st (pI h a (va_up (oI h a) 10 x)) := e_putI dX3_goesOn_175 rfl rfl ht
theorem wX3_goesOn_178 : E_ d mX3_goesOn 178 ls [] h = some (none, h) := e_rt dX3_goesOn_178 rfl rfl
/-! FootOut$Walk.isFree -/
theorem wX3_isFree_0 : E_ d mX3_isFree 0 ls st h = E_ d mX3_isFree 1 ls (.int (nI 0) :: st) h := e_iconst dX3_isFree_0 kiconst_0 rfl
theorem wX3_isFree_1 : E_ d mX3_isFree 1 [s0, s1] (.int x :: st) h = E_ d mX3_isFree 2 [xk s0, .val (.int x)] st h := e_go dX3_isFree_1 rfl rfl
theorem wX3_isFree_2 : E_ d mX3_isFree 2 [s0, .val (.int x)] st h = E_ d mX3_isFree 3 [s0, .val (.int x)] (.int x :: st) h := e_go dX3_isFree_2 rfl rfl
theorem wX3_isFree_3 : E_ d mX3_isFree 3 [.val (.ref a), s1] st h = E_ d mX3_isFree 4 [.val (.ref a), s1] (.ref a :: st) h := e_go dX3_isFree_3 rfl rfl
theorem wX3_isFree_4 (ht : oT h a = 5) : E_ (d + 1) mX3_isFree 4 ls [.ref a, .int x1] h = (C_ d mX3_many [.ref a] h).bind fun r => E_ (d + 1) mX3_isFree 7 ls (xpu r.1 [.int x1]) r.2 := e_vir dX3_isFree_4 rfl rfl rfl rfl rfl rfl (Nat.le_of_ble_eq_true rfl) (Nat.le_of_ble_eq_true rfl) ht
theorem wX3_isFree_7 : E_ d mX3_isFree 7 ls (.int y :: .int x :: st) h = if x < y then E_ d mX3_isFree 10 ls st h else E_ d mX3_isFree 104 ls st h := e_ige dX3_isFree_7 rfl rfl
theorem wX3_isFree_10 : E_ d mX3_isFree 10 [.val (.ref a), s1] st h = E_ d mX3_isFree 11 [.val (.ref a), s1] (.ref a :: st) h := e_go dX3_isFree_10 rfl rfl
theorem wX3_isFree_11 : E_ d mX3_isFree 11 [s0, .val (.int x)] st h = E_ d mX3_isFree 12 [s0, .val (.int x)] (.int x :: st) h := e_go dX3_isFree_11 rfl rfl
theorem wX3_isFree_12 (ht : oT h a = 5) : E_ (d + 1) mX3_isFree 12 ls [.int x1, .ref a] h = (C_ d mX3_car [.ref a, .int x1] h).bind fun r => E_ (d + 1) mX3_isFree 15 ls (xpu r.1 []) r.2 := e_vir dX3_isFree_12 rfl rfl rfl rfl rfl rfl (Nat.le_of_ble_eq_true rfl) (Nat.le_of_ble_eq_true rfl) ht
theorem wX3_isFree_15 (ht : oT h a = 9) : E_ d mX3_isFree 15 ls (.ref a :: st) h = E_ d mX3_isFree 18 ls (.int (oI h a 0) :: st) h := e_getI0 dX3_isFree_15 rfl rfl ht
theorem wX3_isFree_18 : E_ d mX3_isFree 18 [.val (.ref a), s1] st h = E_ d mX3_isFree 19 [.val (.ref a), s1] (.ref a :: st) h := e_go dX3_isFree_18 rfl rfl
theorem wX3_isFree_19 (ht : oT h a = 5) : E_ d mX3_isFree 19 ls (.ref a :: st) h = E_ d mX3_isFree 22 ls (.int (oI h a 6) :: st) h := e_getI dX3_isFree_19 rfl rfl ht
theorem wX3_isFree_22 : E_ d mX3_isFree 22 ls (.int y :: .int x :: st) h = if x = y then E_ d mX3_isFree 25 ls st h else E_ d mX3_isFree 98 ls st h := e_ine dX3_isFree_22 rfl rfl
theorem wX3_isFree_25 : E_ d mX3_isFree 25 [.val (.ref a), s1] st h = E_ d mX3_isFree 26 [.val (.ref a), s1] (.ref a :: st) h := e_go dX3_isFree_25 rfl rfl
theorem wX3_isFree_26 (ht : oT h a = 5) : E_ d mX3_isFree 26 ls (.ref a :: st) h = E_ d mX3_isFree 29 ls (va_rf (oR h a 0) :: st) h := e_getR0 dX3_isFree_26 rfl rfl ht
theorem wX3_isFree_29 : E_ d mX3_isFree 29 [s0, .val (.int x)] st h = E_ d mX3_isFree 30 [s0, .val (.int x)] (.int x :: st) h := e_go dX3_isFree_29 rfl rfl
theorem wX3_isFree_30 (ht : oT h a = 40) (hi : xix x (oN h a) = true) : E_ d mX3_isFree 30 ls (.int x :: .ref a :: st) h = E_ d mX3_isFree 31 ls (.int (oI h a x.toNatClampNeg) :: st) h := e_iald dX3_isFree_30 rfl ht hi
theorem wX3_isFree_31 : E_ d mX3_isFree 31 ls (.int x :: st) h = if 0 < x then E_ d mX3_isFree 34 ls st h else E_ d mX3_isFree 98 ls st h := e_zle dX3_isFree_31 rfl rfl
theorem wX3_isFree_34 : E_ d mX3_isFree 34 [.val (.ref a), s1] st h = E_ d mX3_isFree 35 [.val (.ref a), s1] (.ref a :: st) h := e_go dX3_isFree_34 rfl rfl
theorem wX3_isFree_35 (ht : oT h a = 5) : E_ d mX3_isFree 35 ls (.ref a :: st) h = E_ d mX3_isFree 38 ls (va_rf (oR h a 2) :: st) h := e_getR0 dX3_isFree_35 rfl rfl ht
theorem wX3_isFree_38 : E_ d mX3_isFree 38 [s0, .val (.int x)] st h = E_ d mX3_isFree 39 [s0, .val (.int x)] (.int x :: st) h := e_go dX3_isFree_38 rfl rfl
theorem wX3_isFree_39 (ht : oT h a = 40) (hi : xix x (oN h a) = true) : E_ d mX3_isFree 39 ls (.int x :: .ref a :: st) h = E_ d mX3_isFree 40 ls (.int (oI h a x.toNatClampNeg) :: st) h := e_iald dX3_isFree_39 rfl ht hi
theorem wX3_isFree_40 : E_ d mX3_isFree 40 ls st h = E_ d mX3_isFree 41 ls (.int (nI 2) :: st) h := e_iconst dX3_isFree_40 kiconst_2 rfl
theorem wX3_isFree_41 : E_ d mX3_isFree 41 ls (.int y :: .int x :: st) h = if x = y then E_ d mX3_isFree 98 ls st h else E_ d mX3_isFree 44 ls st h := e_ieq dX3_isFree_41 rfl rfl
theorem wX3_isFree_44 : E_ d mX3_isFree 44 [.val (.ref a), s1] st h = E_ d mX3_isFree 45 [.val (.ref a), s1] (.ref a :: st) h := e_go dX3_isFree_44 rfl rfl
theorem wX3_isFree_45 (ht : oT h a = 5) : E_ d mX3_isFree 45 ls (.ref a :: st) h = E_ d mX3_isFree 48 ls (va_rf (oR h a 3) :: st) h := e_getR0 dX3_isFree_45 rfl rfl ht
theorem wX3_isFree_48 : E_ d mX3_isFree 48 [s0, .val (.int x)] st h = E_ d mX3_isFree 49 [s0, .val (.int x)] (.int x :: st) h := e_go dX3_isFree_48 rfl rfl
theorem wX3_isFree_49 (ht : oT h a = 41 ∨ oT h a = 42) (hi : xix x (oN h a) = true) : E_ d mX3_isFree 49 ls (.int x :: .ref a :: st) h = E_ d mX3_isFree 50 ls (.int (oI h a x.toNatClampNeg) :: st) h := e_bald dX3_isFree_49 rfl ht hi
theorem wX3_isFree_50 : E_ d mX3_isFree 50 ls (.int x :: st) h = if x = 0 then E_ d mX3_isFree 53 ls st h else E_ d mX3_isFree 98 ls st h := e_zne dX3_isFree_50 rfl rfl
theorem wX3_isFree_53 : E_ d mX3_isFree 53 [.val (.ref a), s1] st h = E_ d mX3_isFree 54 [.val (.ref a), s1] (.ref a :: st) h := e_go dX3_isFree_53 rfl rfl
theorem wX3_isFree_54 : E_ d mX3_isFree 54 [s0, .val (.int x)] st h = E_ d mX3_isFree 55 [s0, .val (.int x)] (.int x :: st) h := e_go dX3_isFree_54 rfl rfl
theorem wX3_isFree_55 (ht : oT h a = 5) : E_ (d + 1) mX3_isFree 55 ls [.int x1, .ref a] h = (C_ d mX3_isHidden [.ref a, .int x1] h).bind fun r => E_ (d + 1) mX3_isFree 58 ls (xpu r.1 []) r.2 := e_vir dX3_isFree_55 rfl rfl rfl rfl rfl rfl (Nat.le_of_ble_eq_true rfl) (Nat.le_of_ble_eq_true rfl) ht
theorem wX3_isFree_58 : E_ d mX3_isFree 58 ls (.int x :: st) h = if x = 0 then E_ d mX3_isFree 64 ls st h else E_ d mX3_isFree 61 ls st h := e_zeq dX3_isFree_58 rfl rfl
theorem wX3_isFree_61 : E_ d mX3_isFree 61 ls st h = E_ d mX3_isFree 98 ls st h := e_gt dX3_isFree_61 rfl
theorem wX3_isFree_64 : E_ d mX3_isFree 64 [.val (.ref a), s1] st h = E_ d mX3_isFree 65 [.val (.ref a), s1] (.ref a :: st) h := e_go dX3_isFree_64 rfl rfl
theorem wX3_isFree_65 (ht : oT h a = 5) : E_ d mX3_isFree 65 ls (.ref a :: st) h = E_ d mX3_isFree 68 ls (va_rf (oR h a 0) :: st) h := e_getR0 dX3_isFree_65 rfl rfl ht
theorem wX3_isFree_68 : E_ d mX3_isFree 68 [s0, .val (.int x)] st h = E_ d mX3_isFree 69 [s0, .val (.int x)] (.int x :: st) h := e_go dX3_isFree_68 rfl rfl
theorem wX3_isFree_69 (ht : oT h a = 40) (hi : xix x (oN h a) = true) : E_ d mX3_isFree 69 ls (.int x :: .ref a :: st) h = E_ d mX3_isFree 70 ls (.int (oI h a x.toNatClampNeg) :: st) h := e_iald dX3_isFree_69 rfl ht hi
theorem wX3_isFree_70 : E_ d mX3_isFree 70 [.val (.ref a), s1] st h = E_ d mX3_isFree 71 [.val (.ref a), s1] (.ref a :: st) h := e_go dX3_isFree_70 rfl rfl
theorem wX3_isFree_71 (ht : oT h a = 5) : E_ d mX3_isFree 71 ls (.ref a :: st) h = E_ d mX3_isFree 74 ls (va_rf (oR h a 1) :: st) h := e_getR0 dX3_isFree_71 rfl rfl ht
theorem wX3_isFree_74 : E_ d mX3_isFree 74 [s0, .val (.int x)] st h = E_ d mX3_isFree 75 [s0, .val (.int x)] (.int x :: st) h := e_go dX3_isFree_74 rfl rfl
theorem wX3_isFree_75 (ht : oT h a = 40) (hi : xix x (oN h a) = true) : E_ d mX3_isFree 75 ls (.int x :: .ref a :: st) h = E_ d mX3_isFree 76 ls (.int (oI h a x.toNatClampNeg) :: st) h := e_iald dX3_isFree_75 rfl ht hi
theorem wX3_isFree_76 : E_ d mX3_isFree 76 ls (.int y :: .int x :: st) h = E_ d mX3_isFree 77 ls (.int (x + y) :: st) h := e_go dX3_isFree_76 rfl rfl
theorem wX3_isFree_77 : E_ d mX3_isFree 77 ls st h = E_ d mX3_isFree 78 ls (.int (nI 1) :: st) h := e_iconst dX3_isFree_77 kiconst_1 rfl
theorem wX3_isFree_78 : E_ d mX3_isFree 78 ls (.int y :: .int x :: st) h = E_ d mX3_isFree 79 ls (.int (x - y) :: st) h := e_go dX3_isFree_78 rfl rfl
theorem wX3_isFree_79 : E_ d mX3_isFree 79 [.val (.ref a), s1] st h = E_ d mX3_isFree 80 [.val (.ref a), s1] (.ref a :: st) h := e_go dX3_isFree_79 rfl rfl
theorem wX3_isFree_80 (ht : oT h a = 5) : E_ d mX3_isFree 80 ls (.ref a :: st) h = E_ d mX3_isFree 83 ls (va_rf (oR h a 1) :: st) h := e_getR0 dX3_isFree_80 rfl rfl ht
theorem wX3_isFree_83 : E_ d mX3_isFree 83 [s0, .val (.int x)] st h = E_ d mX3_isFree 84 [s0, .val (.int x)] (.int x :: st) h := e_go dX3_isFree_83 rfl rfl
theorem wX3_isFree_84 (ht : oT h a = 40) (hi : xix x (oN h a) = true) : E_ d mX3_isFree 84 ls (.int x :: .ref a :: st) h = E_ d mX3_isFree 85 ls (.int (oI h a x.toNatClampNeg) :: st) h := e_iald dX3_isFree_84 rfl ht hi
theorem wX3_isFree_85 (hy : ¬ y = 0) : E_ d mX3_isFree 85 ls (.int y :: .int x :: st) h = E_ d mX3_isFree 86 ls (.int (x / y) :: st) h := e_div dX3_isFree_85 rfl hy
theorem wX3_isFree_86 : E_ d mX3_isFree 86 [.val (.ref a), s1] st h = E_ d mX3_isFree 87 [.val (.ref a), s1] (.ref a :: st) h := e_go dX3_isFree_86 rfl rfl
theorem wX3_isFree_87 (ht : oT h a = 5) : E_ d mX3_isFree 87 ls (.ref a :: st) h = E_ d mX3_isFree 90 ls (va_rf (oR h a 5) :: st) h := e_getR dX3_isFree_87 rfl rfl ht
theorem wX3_isFree_90 (ht : oT h a = 3) : E_ d mX3_isFree 90 ls (.ref a :: st) h = E_ d mX3_isFree 93 ls (.int (oI h a 4) :: st) h := e_getI dX3_isFree_90 rfl rfl ht
theorem wX3_isFree_93 : E_ d mX3_isFree 93 ls (.int y :: .int x :: st) h = if y < x then E_ d mX3_isFree 98 ls st h else E_ d mX3_isFree 96 ls st h := e_igt dX3_isFree_93 rfl rfl
theorem wX3_isFree_96 : E_ d mX3_isFree 96 ls st h = E_ d mX3_isFree 97 ls (.int (nI 0) :: st) h := e_iconst dX3_isFree_96 kiconst_0 rfl
theorem wX3_isFree_97 (hx : x = 0 ∨ x = 1) : E_ d mX3_isFree 97 ls [.int x] h = some (some (.int x), h) := e_rtZ dX3_isFree_97 rfl hx
theorem wX3_isFree_98 : E_ d mX3_isFree 98 [s0, .val (.int x)] st h = E_ d mX3_isFree 101 [xk s0, .val (.int (x + nI 1))] st h := by rw [← kiinc_1]; exact e_go dX3_isFree_98 rfl rfl
theorem wX3_isFree_101 : E_ d mX3_isFree 101 ls st h = E_ d mX3_isFree 2 ls st h := e_gt dX3_isFree_101 rfl
theorem wX3_isFree_104 : E_ d mX3_isFree 104 ls st h = E_ d mX3_isFree 105 ls (.int (nI 1) :: st) h := e_iconst dX3_isFree_104 kiconst_1 rfl
theorem wX3_isFree_105 (hx : x = 0 ∨ x = 1) : E_ d mX3_isFree 105 ls [.int x] h = some (some (.int x), h) := e_rtZ dX3_isFree_105 rfl hx
/-! FootOut$Walk.isHidden -/
theorem wX3_isHidden_0 : E_ d mX3_isHidden 0 ls st h = E_ d mX3_isHidden 1 ls (.int (nI 0) :: st) h := e_iconst dX3_isHidden_0 kiconst_0 rfl
theorem wX3_isHidden_1 : E_ d mX3_isHidden 1 [s0, s1, s2] (.int x :: st) h = E_ d mX3_isHidden 2 [s0, xk s1, .val (.int x)] st h := e_go dX3_isHidden_1 rfl rfl
theorem wX3_isHidden_2 : E_ d mX3_isHidden 2 [s0, s1, .val (.int x)] st h = E_ d mX3_isHidden 3 [s0, s1, .val (.int x)] (.int x :: st) h := e_go dX3_isHidden_2 rfl rfl
theorem wX3_isHidden_3 : E_ d mX3_isHidden 3 [.val (.ref a), s1, s2] st h = E_ d mX3_isHidden 4 [.val (.ref a), s1, s2] (.ref a :: st) h := e_go dX3_isHidden_3 rfl rfl
theorem wX3_isHidden_4 (ht : oT h a = 5) : E_ (d + 1) mX3_isHidden 4 ls [.ref a, .int x1] h = (C_ d mX3_many [.ref a] h).bind fun r => E_ (d + 1) mX3_isHidden 7 ls (xpu r.1 [.int x1]) r.2 := e_vir dX3_isHidden_4 rfl rfl rfl rfl rfl rfl (Nat.le_of_ble_eq_true rfl) (Nat.le_of_ble_eq_true rfl) ht
theorem wX3_isHidden_7 : E_ d mX3_isHidden 7 ls (.int y :: .int x :: st) h = if x < y then E_ d mX3_isHidden 10 ls st h else E_ d mX3_isHidden 97 ls st h := e_ige dX3_isHidden_7 rfl rfl
theorem wX3_isHidden_10 : E_ d mX3_isHidden 10 [.val (.ref a), s1, s2] st h = E_ d mX3_isHidden 11 [.val (.ref a), s1, s2] (.ref a :: st) h := e_go dX3_isHidden_10 rfl rfl
theorem wX3_isHidden_11 : E_ d mX3_isHidden 11 [s0, s1, .val (.int x)] st h = E_ d mX3_isHidden 12 [s0, s1, .val (.int x)] (.int x :: st) h := e_go dX3_isHidden_11 rfl rfl
theorem wX3_isHidden_12 (ht : oT h a = 5) : E_ (d + 1) mX3_isHidden 12 ls [.int x1, .ref a] h = (C_ d mX3_car [.ref a, .int x1] h).bind fun r => E_ (d + 1) mX3_isHidden 15 ls (xpu r.1 []) r.2 := e_vir dX3_isHidden_12 rfl rfl rfl rfl rfl rfl (Nat.le_of_ble_eq_true rfl) (Nat.le_of_ble_eq_true rfl) ht
theorem wX3_isHidden_15 (ht : oT h a = 9) : E_ d mX3_isHidden 15 ls (.ref a :: st) h = E_ d mX3_isHidden 18 ls (.int (oI h a 0) :: st) h := e_getI0 dX3_isHidden_15 rfl rfl ht
theorem wX3_isHidden_18 : E_ d mX3_isHidden 18 [.val (.ref a), s1, s2] st h = E_ d mX3_isHidden 19 [.val (.ref a), s1, s2] (.ref a :: st) h := e_go dX3_isHidden_18 rfl rfl
theorem wX3_isHidden_19 (ht : oT h a = 5) : E_ d mX3_isHidden 19 ls (.ref a :: st) h = E_ d mX3_isHidden 22 ls (.int (oI h a 6) :: st) h := e_getI dX3_isHidden_19 rfl rfl ht
theorem wX3_isHidden_22 : E_ d mX3_isHidden 22 ls st h = E_ d mX3_isHidden 23 ls (.int (nI 1) :: st) h := e_iconst dX3_isHidden_22 kiconst_1 rfl
theorem wX3_isHidden_23 : E_ d mX3_isHidden 23 ls (.int y :: .int x :: st) h = E_ d mX3_isHidden 24 ls (.int (x - y) :: st) h := e_go dX3_isHidden_23 rfl rfl
theorem wX3_isHidden_24 : E_ d mX3_isHidden 24 ls (.int y :: .int x :: st) h = if x = y then E_ d mX3_isHidden 27 ls st h else E_ d mX3_isHidden 91 ls st h := e_ine dX3_isHidden_24 rfl rfl
theorem wX3_isHidden_27 : E_ d mX3_isHidden 27 [.val (.ref a), s1, s2] st h = E_ d mX3_isHidden 28 [.val (.ref a), s1, s2] (.ref a :: st) h := e_go dX3_isHidden_27 rfl rfl
theorem wX3_isHidden_28 : E_ d mX3_isHidden 28 [s0, s1, .val (.int x)] st h = E_ d mX3_isHidden 29 [s0, s1, .val (.int x)] (.int x :: st) h := e_go dX3_isHidden_28 rfl rfl
theorem wX3_isHidden_29 (ht : oT h a = 5) : E_ (d + 1) mX3_isHidden 29 ls [.int x1, .ref a] h = (C_ d mX3_car [.ref a, .int x1] h).bind fun r => E_ (d + 1) mX3_isHidden 32 ls (xpu r.1 []) r.2 := e_vir dX3_isHidden_29 rfl rfl rfl rfl rfl rfl (Nat.le_of_ble_eq_true rfl) (Nat.le_of_ble_eq_true rfl) ht
theorem wX3_isHidden_32 (ht : oT h a = 9) : E_ d mX3_isHidden 32 ls (.ref a :: st) h = E_ d mX3_isHidden 35 ls (.int (oI h a 3) :: st) h := e_getI0 dX3_isHidden_32 rfl rfl ht
theorem wX3_isHidden_35 : E_ d mX3_isHidden 35 ls (.int x :: st) h = if 0 < x then E_ d mX3_isHidden 38 ls st h else E_ d mX3_isHidden 91 ls st h := e_zle dX3_isHidden_35 rfl rfl
theorem wX3_isHidden_38 : E_ d mX3_isHidden 38 [.val (.ref a), s1, s2] st h = E_ d mX3_isHidden 39 [.val (.ref a), s1, s2] (.ref a :: st) h := e_go dX3_isHidden_38 rfl rfl
theorem wX3_isHidden_39 (ht : oT h a = 5) : E_ d mX3_isHidden 39 ls (.ref a :: st) h = E_ d mX3_isHidden 42 ls (va_rf (oR h a 2) :: st) h := e_getR0 dX3_isHidden_39 rfl rfl ht
theorem wX3_isHidden_42 : E_ d mX3_isHidden 42 [s0, s1, .val (.int x)] st h = E_ d mX3_isHidden 43 [s0, s1, .val (.int x)] (.int x :: st) h := e_go dX3_isHidden_42 rfl rfl
theorem wX3_isHidden_43 (ht : oT h a = 40) (hi : xix x (oN h a) = true) : E_ d mX3_isHidden 43 ls (.int x :: .ref a :: st) h = E_ d mX3_isHidden 44 ls (.int (oI h a x.toNatClampNeg) :: st) h := e_iald dX3_isHidden_43 rfl ht hi
theorem wX3_isHidden_44 : E_ d mX3_isHidden 44 ls st h = E_ d mX3_isHidden 45 ls (.int (nI 2) :: st) h := e_iconst dX3_isHidden_44 kiconst_2 rfl
theorem wX3_isHidden_45 : E_ d mX3_isHidden 45 ls (.int y :: .int x :: st) h = if x = y then E_ d mX3_isHidden 48 ls st h else E_ d mX3_isHidden 91 ls st h := e_ine dX3_isHidden_45 rfl rfl
theorem wX3_isHidden_48 : E_ d mX3_isHidden 48 [.val (.ref a), s1, s2] st h = E_ d mX3_isHidden 49 [.val (.ref a), s1, s2] (.ref a :: st) h := e_go dX3_isHidden_48 rfl rfl
theorem wX3_isHidden_49 (ht : oT h a = 5) : E_ d mX3_isHidden 49 ls (.ref a :: st) h = E_ d mX3_isHidden 52 ls (va_rf (oR h a 1) :: st) h := e_getR0 dX3_isHidden_49 rfl rfl ht
theorem wX3_isHidden_52 : E_ d mX3_isHidden 52 [s0, s1, .val (.int x)] st h = E_ d mX3_isHidden 53 [s0, s1, .val (.int x)] (.int x :: st) h := e_go dX3_isHidden_52 rfl rfl
theorem wX3_isHidden_53 (ht : oT h a = 40) (hi : xix x (oN h a) = true) : E_ d mX3_isHidden 53 ls (.int x :: .ref a :: st) h = E_ d mX3_isHidden 54 ls (.int (oI h a x.toNatClampNeg) :: st) h := e_iald dX3_isHidden_53 rfl ht hi
theorem wX3_isHidden_54 : E_ d mX3_isHidden 54 ls (.int x :: st) h = if x = 0 then E_ d mX3_isHidden 57 ls st h else E_ d mX3_isHidden 91 ls st h := e_zne dX3_isHidden_54 rfl rfl
theorem wX3_isHidden_57 : E_ d mX3_isHidden 57 [.val (.ref a), s1, s2] st h = E_ d mX3_isHidden 58 [.val (.ref a), s1, s2] (.ref a :: st) h := e_go dX3_isHidden_57 rfl rfl
theorem wX3_isHidden_58 (ht : oT h a = 5) : E_ d mX3_isHidden 58 ls (.ref a :: st) h = E_ d mX3_isHidden 61 ls (va_rf (oR h a 0) :: st) h := e_getR0 dX3_isHidden_58 rfl rfl ht
theorem wX3_isHidden_61 : E_ d mX3_isHidden 61 [s0, s1, .val (.int x)] st h = E_ d mX3_isHidden 62 [s0, s1, .val (.int x)] (.int x :: st) h := e_go dX3_isHidden_61 rfl rfl
theorem wX3_isHidden_62 (ht : oT h a = 40) (hi : xix x (oN h a) = true) : E_ d mX3_isHidden 62 ls (.int x :: .ref a :: st) h = E_ d mX3_isHidden 63 ls (.int (oI h a x.toNatClampNeg) :: st) h := e_iald dX3_isHidden_62 rfl ht hi
theorem wX3_isHidden_63 : E_ d mX3_isHidden 63 ls (.int x :: st) h = E_ d mX3_isHidden 64 ls (.long x.toInt64 :: st) h := e_go dX3_isHidden_63 rfl rfl
theorem wX3_isHidden_64 : E_ d mX3_isHidden 64 ls st h = E_ d mX3_isHidden 65 ls (.long 1 :: st) h := e_go dX3_isHidden_64 rfl rfl
theorem wX3_isHidden_65 : E_ d mX3_isHidden 65 ls st h = E_ d mX3_isHidden 68 ls (.long (3) :: st) h := e_go dX3_isHidden_65 rfl rfl
theorem wX3_isHidden_68 : E_ (d + 1) mX3_isHidden 68 ls [.long u3, .long u2, .long u1] h = (C_ d mX0_in [.long u1, .long u2, .long u3] h).bind fun r => E_ (d + 1) mX3_isHidden 71 ls (xpu r.1 []) r.2 := e_call dX3_isHidden_68 rfl rfl
theorem wX3_isHidden_71 : E_ d mX3_isHidden 71 ls (.int x :: st) h = if x = 0 then E_ d mX3_isHidden 91 ls st h else E_ d mX3_isHidden 74 ls st h := e_zeq dX3_isHidden_71 rfl rfl
theorem wX3_isHidden_74 : E_ d mX3_isHidden 74 [.val (.ref a), s1, s2] st h = E_ d mX3_isHidden 75 [.val (.ref a), s1, s2] (.ref a :: st) h := e_go dX3_isHidden_74 rfl rfl
theorem wX3_isHidden_75 (ht : oT h a = 5) : E_ d mX3_isHidden 75 ls (.ref a :: st) h = E_ d mX3_isHidden 78 ls (va_rf (oR h a 0) :: st) h := e_getR0 dX3_isHidden_75 rfl rfl ht
theorem wX3_isHidden_78 : E_ d mX3_isHidden 78 [s0, s1, .val (.int x)] st h = E_ d mX3_isHidden 79 [s0, s1, .val (.int x)] (.int x :: st) h := e_go dX3_isHidden_78 rfl rfl
theorem wX3_isHidden_79 (ht : oT h a = 40) (hi : xix x (oN h a) = true) : E_ d mX3_isHidden 79 ls (.int x :: .ref a :: st) h = E_ d mX3_isHidden 80 ls (.int (oI h a x.toNatClampNeg) :: st) h := e_iald dX3_isHidden_79 rfl ht hi
theorem wX3_isHidden_80 : E_ d mX3_isHidden 80 [.val (.ref a), s1, s2] st h = E_ d mX3_isHidden 81 [.val (.ref a), s1, s2] (.ref a :: st) h := e_go dX3_isHidden_80 rfl rfl
theorem wX3_isHidden_81 (ht : oT h a = 5) : E_ d mX3_isHidden 81 ls (.ref a :: st) h = E_ d mX3_isHidden 84 ls (va_rf (oR h a 0) :: st) h := e_getR0 dX3_isHidden_81 rfl rfl ht
theorem wX3_isHidden_84 : E_ d mX3_isHidden 84 [s0, .val (.int x), s2] st h = E_ d mX3_isHidden 85 [s0, .val (.int x), s2] (.int x :: st) h := e_go dX3_isHidden_84 rfl rfl
theorem wX3_isHidden_85 (ht : oT h a = 40) (hi : xix x (oN h a) = true) : E_ d mX3_isHidden 85 ls (.int x :: .ref a :: st) h = E_ d mX3_isHidden 86 ls (.int (oI h a x.toNatClampNeg) :: st) h := e_iald dX3_isHidden_85 rfl ht hi
theorem wX3_isHidden_86 : E_ d mX3_isHidden 86 ls (.int y :: .int x :: st) h = if x < y then E_ d mX3_isHidden 89 ls st h else E_ d mX3_isHidden 91 ls st h := e_ige dX3_isHidden_86 rfl rfl
theorem wX3_isHidden_89 : E_ d mX3_isHidden 89 ls st h = E_ d mX3_isHidden 90 ls (.int (nI 1) :: st) h := e_iconst dX3_isHidden_89 kiconst_1 rfl
theorem wX3_isHidden_90 (hx : x = 0 ∨ x = 1) : E_ d mX3_isHidden 90 ls [.int x] h = some (some (.int x), h) := e_rtZ dX3_isHidden_90 rfl hx
theorem wX3_isHidden_91 : E_ d mX3_isHidden 91 [s0, s1, .val (.int x)] st h = E_ d mX3_isHidden 94 [s0, xk s1, .val (.int (x + nI 1))] st h := by rw [← kiinc_1]; exact e_go dX3_isHidden_91 rfl rfl
theorem wX3_isHidden_94 : E_ d mX3_isHidden 94 ls st h = E_ d mX3_isHidden 2 ls st h := e_gt dX3_isHidden_94 rfl
theorem wX3_isHidden_97 : E_ d mX3_isHidden 97 ls st h = E_ d mX3_isHidden 98 ls (.int (nI 0) :: st) h := e_iconst dX3_isHidden_97 kiconst_0 rfl
theorem wX3_isHidden_98 (hx : x = 0 ∨ x = 1) : E_ d mX3_isHidden 98 ls [.int x] h = some (some (.int x), h) := e_rtZ dX3_isHidden_98 rfl hx
/-! FootOut$Walk.isAtKerb -/
theorem wX3_isAtKerb_0 : E_ d mX3_isAtKerb 0 [.val (.ref a)] st h = E_ d mX3_isAtKerb 1 [.val (.ref a)] (.ref a :: st) h := e_go dX3_isAtKerb_0 rfl rfl
theorem wX3_isAtKerb_1 (ht : oT h a = 5) : E_ d mX3_isAtKerb 1 ls (.ref a :: st) h = E_ d mX3_isAtKerb 4 ls (.int (oI h a 6) :: st) h := e_getI dX3_isAtKerb_1 rfl rfl ht
theorem wX3_isAtKerb_4 : E_ d mX3_isAtKerb 4 ls (.int x :: st) h = if x = 0 then E_ d mX3_isAtKerb 7 ls st h else E_ d mX3_isAtKerb 18 ls st h := e_zne dX3_isAtKerb_4 rfl rfl
theorem wX3_isAtKerb_7 : E_ d mX3_isAtKerb 7 [.val (.ref a)] st h = E_ d mX3_isAtKerb 8 [.val (.ref a)] (.ref a :: st) h := e_go dX3_isAtKerb_7 rfl rfl
theorem wX3_isAtKerb_8 (ht : oT h a = 5) : E_ d mX3_isAtKerb 8 ls (.ref a :: st) h = E_ d mX3_isAtKerb 11 ls (.int (oI h a 7) :: st) h := e_getI dX3_isAtKerb_8 rfl rfl ht
theorem wX3_isAtKerb_11 : E_ d mX3_isAtKerb 11 ls (.int x :: st) h = if x = 0 then E_ d mX3_isAtKerb 14 ls st h else E_ d mX3_isAtKerb 18 ls st h := e_zne dX3_isAtKerb_11 rfl rfl
theorem wX3_isAtKerb_14 : E_ d mX3_isAtKerb 14 ls st h = E_ d mX3_isAtKerb 15 ls (.int (nI 1) :: st) h := e_iconst dX3_isAtKerb_14 kiconst_1 rfl
theorem wX3_isAtKerb_15 : E_ d mX3_isAtKerb 15 ls st h = E_ d mX3_isAtKerb 19 ls st h := e_gt dX3_isAtKerb_15 rfl
theorem wX3_isAtKerb_18 : E_ d mX3_isAtKerb 18 ls st h = E_ d mX3_isAtKerb 19 ls (.int (nI 0) :: st) h := e_iconst dX3_isAtKerb_18 kiconst_0 rfl
theorem wX3_isAtKerb_19 (hx : x = 0 ∨ x = 1) : E_ d mX3_isAtKerb 19 ls [.int x] h = some (some (.int x), h) := e_rtZ dX3_isAtKerb_19 rfl hx
/-! FootOut$Walk.moves -/
theorem wX3_moves_0 : E_ d mX3_moves 0 ls st h = E_ d mX3_moves 1 ls (.int (nI 0) :: st) h := e_iconst dX3_moves_0 kiconst_0 rfl
theorem wX3_moves_1 : E_ d mX3_moves 1 [s0, s1, s2, s3, s4] (.int x :: st) h = E_ d mX3_moves 2 [s0, xk s1, .val (.int x), s3, s4] st h := e_go dX3_moves_1 rfl rfl
theorem wX3_moves_2 : E_ d mX3_moves 2 [s0, s1, .val (.int x), s3, s4] st h = E_ d mX3_moves 3 [s0, s1, .val (.int x), s3, s4] (.int x :: st) h := e_go dX3_moves_2 rfl rfl
theorem wX3_moves_3 : E_ d mX3_moves 3 [.val (.ref a), s1, s2, s3, s4] st h = E_ d mX3_moves 4 [.val (.ref a), s1, s2, s3, s4] (.ref a :: st) h := e_go dX3_moves_3 rfl rfl
theorem wX3_moves_4 (ht : oT h a = 5) : E_ (d + 1) mX3_moves 4 ls [.ref a, .int x1] h = (C_ d mX3_many [.ref a] h).bind fun r => E_ (d + 1) mX3_moves 7 ls (xpu r.1 [.int x1]) r.2 := e_vir dX3_moves_4 rfl rfl rfl rfl rfl rfl (Nat.le_of_ble_eq_true rfl) (Nat.le_of_ble_eq_true rfl) ht
theorem wX3_moves_7 : E_ d mX3_moves 7 ls (.int y :: .int x :: st) h = if x < y then E_ d mX3_moves 10 ls st h else E_ d mX3_moves 23 ls st h := e_ige dX3_moves_7 rfl rfl
theorem wX3_moves_10 : E_ d mX3_moves 10 [.val (.ref a), s1, s2, s3, s4] st h = E_ d mX3_moves 11 [.val (.ref a), s1, s2, s3, s4] (.ref a :: st) h := e_go dX3_moves_10 rfl rfl
theorem wX3_moves_11 (ht : oT h a = 5) : E_ d mX3_moves 11 ls (.ref a :: st) h = E_ d mX3_moves 14 ls (va_rf (oR h a 4) :: st) h := e_getR0 dX3_moves_11 rfl rfl ht
theorem wX3_moves_14 : E_ d mX3_moves 14 [s0, s1, .val (.int x), s3, s4] st h = E_ d mX3_moves 15 [s0, s1, .val (.int x), s3, s4] (.int x :: st) h := e_go dX3_moves_14 rfl rfl
theorem wX3_moves_15 : E_ d mX3_moves 15 ls st h = E_ d mX3_moves 16 ls (.int (nI 0) :: st) h := e_iconst dX3_moves_15 kiconst_0 rfl
theorem wX3_moves_16 (ht : oT h a = 41) (hi : xix x (oN h a) = true) : E_ d mX3_moves 16 ls (.int y :: .int x :: .ref a :: st) h = E_ d mX3_moves 17 ls st (pI h a (va_up (oI h a) x.toNatClampNeg (vp_nar .byte y))) := e_bast dX3_moves_16 rfl ht hi
theorem wX3_moves_16z (ht : oT h a = 42) (hi : xix x (oN h a) = true) : E_ d mX3_moves 16 ls (.int y :: .int x :: .ref a :: st) h = E_ d mX3_moves 17 ls st (pI h a (va_up (oI h a) x.toNatClampNeg (vp_nar .boolean y))) := e_zast dX3_moves_16 rfl ht hi
theorem wX3_moves_17 : E_ d mX3_moves 17 [s0, s1, .val (.int x), s3, s4] st h = E_ d mX3_moves 20 [s0, xk s1, .val (.int (x + nI 1)), s3, s4] st h := by rw [← kiinc_1]; exact e_go dX3_moves_17 rfl rfl
theorem wX3_moves_20 : E_ d mX3_moves 20 ls st h = E_ d mX3_moves 2 ls st h := e_gt dX3_moves_20 rfl
theorem wX3_moves_23 : E_ d mX3_moves 23 ls st h = E_ d mX3_moves 24 ls (.int ((-1)) :: st) h := e_iconst dX3_moves_23 kiconst_m1 rfl
theorem wX3_moves_24 : E_ d mX3_moves 24 [s0, s1, s2, s3, s4] (.int x :: st) h = E_ d mX3_moves 25 [s0, xk s1, .val (.int x), s3, s4] st h := e_go dX3_moves_24 rfl rfl
theorem wX3_moves_25 : E_ d mX3_moves 25 ls st h = E_ d mX3_moves 26 ls (.int ((-1)) :: st) h := e_iconst dX3_moves_25 kiconst_m1 rfl
theorem wX3_moves_26 : E_ d mX3_moves 26 [s0, s1, s2, s3, s4] (.int x :: st) h = E_ d mX3_moves 27 [s0, s1, xk s2, .val (.int x), s4] st h := e_go dX3_moves_26 rfl rfl
theorem wX3_moves_27 : E_ d mX3_moves 27 [.val (.ref a), s1, s2, s3, s4] st h = E_ d mX3_moves 28 [.val (.ref a), s1, s2, s3, s4] (.ref a :: st) h := e_go dX3_moves_27 rfl rfl
theorem wX3_moves_28 : E_ d mX3_moves 28 [s0, .val (.int x), s2, s3, s4] st h = E_ d mX3_moves 29 [s0, .val (.int x), s2, s3, s4] (.int x :: st) h := e_go dX3_moves_28 rfl rfl
theorem wX3_moves_29 (ht : oT h a = 5) : E_ (d + 1) mX3_moves 29 ls [.int x1, .ref a] h = (C_ d mX3_nearest [.ref a, .int x1] h).bind fun r => E_ (d + 1) mX3_moves 32 ls (xpu r.1 []) r.2 := e_vir dX3_moves_29 rfl rfl rfl rfl rfl rfl (Nat.le_of_ble_eq_true rfl) (Nat.le_of_ble_eq_true rfl) ht
theorem wX3_moves_32 : E_ d mX3_moves 32 [s0, s1, s2, s3, s4] (.int x :: st) h = E_ d mX3_moves 34 [s0, s1, s2, xk s3, .val (.int x)] st h := e_go dX3_moves_32 rfl rfl
theorem wX3_moves_34 : E_ d mX3_moves 34 [s0, s1, s2, s3, .val (.int x)] st h = E_ d mX3_moves 36 [s0, s1, s2, s3, .val (.int x)] (.int x :: st) h := e_go dX3_moves_34 rfl rfl
theorem wX3_moves_36 : E_ d mX3_moves 36 ls st h = E_ d mX3_moves 37 ls (.int ((-1)) :: st) h := e_iconst dX3_moves_36 kiconst_m1 rfl
theorem wX3_moves_37 : E_ d mX3_moves 37 ls (.int y :: .int x :: st) h = if x = y then E_ d mX3_moves 128 ls st h else E_ d mX3_moves 40 ls st h := e_ieq dX3_moves_37 rfl rfl
theorem wX3_moves_40 : E_ d mX3_moves 40 [.val (.ref a), s1, s2, s3, s4] st h = E_ d mX3_moves 41 [.val (.ref a), s1, s2, s3, s4] (.ref a :: st) h := e_go dX3_moves_40 rfl rfl
theorem wX3_moves_41 : E_ d mX3_moves 41 [s0, s1, s2, s3, .val (.int x)] st h = E_ d mX3_moves 43 [s0, s1, s2, s3, .val (.int x)] (.int x :: st) h := e_go dX3_moves_41 rfl rfl
theorem wX3_moves_43 : E_ d mX3_moves 43 [s0, s1, s2, .val (.int x), s4] st h = E_ d mX3_moves 44 [s0, s1, s2, .val (.int x), s4] (.int x :: st) h := e_go dX3_moves_43 rfl rfl
theorem wX3_moves_44 (ht : oT h a = 5) : E_ (d + 1) mX3_moves 44 ls [.int x2, .int x1, .ref a] h = (C_ d mX3_goes [.ref a, .int x1, .int x2] h).bind fun r => E_ (d + 1) mX3_moves 47 ls (xpu r.1 []) r.2 := e_vir dX3_moves_44 rfl rfl rfl rfl rfl rfl (Nat.le_of_ble_eq_true rfl) (Nat.le_of_ble_eq_true rfl) ht
theorem wX3_moves_47 : E_ d mX3_moves 47 [.val (.ref a), s1, s2, s3, s4] st h = E_ d mX3_moves 48 [.val (.ref a), s1, s2, s3, s4] (.ref a :: st) h := e_go dX3_moves_47 rfl rfl
theorem wX3_moves_48 (ht : oT h a = 5) : E_ d mX3_moves 48 ls (.ref a :: st) h = E_ d mX3_moves 51 ls (va_rf (oR h a 4) :: st) h := e_getR0 dX3_moves_48 rfl rfl ht
theorem wX3_moves_51 : E_ d mX3_moves 51 [s0, s1, s2, s3, .val (.int x)] st h = E_ d mX3_moves 53 [s0, s1, s2, s3, .val (.int x)] (.int x :: st) h := e_go dX3_moves_51 rfl rfl
theorem wX3_moves_53 : E_ d mX3_moves 53 ls st h = E_ d mX3_moves 54 ls (.int (nI 1) :: st) h := e_iconst dX3_moves_53 kiconst_1 rfl
theorem wX3_moves_54 (ht : oT h a = 41) (hi : xix x (oN h a) = true) : E_ d mX3_moves 54 ls (.int y :: .int x :: .ref a :: st) h = E_ d mX3_moves 55 ls st (pI h a (va_up (oI h a) x.toNatClampNeg (vp_nar .byte y))) := e_bast dX3_moves_54 rfl ht hi
theorem wX3_moves_54z (ht : oT h a = 42) (hi : xix x (oN h a) = true) : E_ d mX3_moves 54 ls (.int y :: .int x :: .ref a :: st) h = E_ d mX3_moves 55 ls st (pI h a (va_up (oI h a) x.toNatClampNeg (vp_nar .boolean y))) := e_zast dX3_moves_54 rfl ht hi
theorem wX3_moves_55 : E_ d mX3_moves 55 [.val (.ref a), s1, s2, s3, s4] st h = E_ d mX3_moves 56 [.val (.ref a), s1, s2, s3, s4] (.ref a :: st) h := e_go dX3_moves_55 rfl rfl
theorem wX3_moves_56 (ht : oT h a = 5) : E_ d mX3_moves 56 ls (.ref a :: st) h = E_ d mX3_moves 59 ls (va_rf (oR h a 0) :: st) h := e_getR0 dX3_moves_56 rfl rfl ht
theorem wX3_moves_59 : E_ d mX3_moves 59 [s0, s1, s2, s3, .val (.int x)] st h = E_ d mX3_moves 61 [s0, s1, s2, s3, .val (.int x)] (.int x :: st) h := e_go dX3_moves_59 rfl rfl
theorem wX3_moves_61 (ht : oT h a = 40) (hi : xix x (oN h a) = true) : E_ d mX3_moves 61 ls (.int x :: .ref a :: st) h = E_ d mX3_moves 62 ls (.int (oI h a x.toNatClampNeg) :: st) h := e_iald dX3_moves_61 rfl ht hi
theorem wX3_moves_62 : E_ d mX3_moves 62 ls (.int x :: st) h = if 0 < x then E_ d mX3_moves 85 ls st h else E_ d mX3_moves 65 ls st h := e_zgt dX3_moves_62 rfl rfl
theorem wX3_moves_65 : E_ d mX3_moves 65 [s0, s1, .val (.int x), s3, s4] st h = E_ d mX3_moves 66 [s0, s1, .val (.int x), s3, s4] (.int x :: st) h := e_go dX3_moves_65 rfl rfl
theorem wX3_moves_66 : E_ d mX3_moves 66 ls st h = E_ d mX3_moves 67 ls (.int ((-1)) :: st) h := e_iconst dX3_moves_66 kiconst_m1 rfl
theorem wX3_moves_67 : E_ d mX3_moves 67 ls (.int y :: .int x :: st) h = if x = y then E_ d mX3_moves 70 ls st h else E_ d mX3_moves 75 ls st h := e_ine dX3_moves_67 rfl rfl
theorem wX3_moves_70 : E_ d mX3_moves 70 [s0, s1, s2, s3, .val (.int x)] st h = E_ d mX3_moves 72 [s0, s1, s2, s3, .val (.int x)] (.int x :: st) h := e_go dX3_moves_70 rfl rfl
theorem wX3_moves_72 : E_ d mX3_moves 72 ls st h = E_ d mX3_moves 81 ls st h := e_gt dX3_moves_72 rfl
theorem wX3_moves_75 : E_ d mX3_moves 75 [s0, s1, .val (.int x), s3, s4] st h = E_ d mX3_moves 76 [s0, s1, .val (.int x), s3, s4] (.int x :: st) h := e_go dX3_moves_75 rfl rfl
theorem wX3_moves_76 : E_ d mX3_moves 76 [s0, s1, s2, s3, .val (.int x)] st h = E_ d mX3_moves 78 [s0, s1, s2, s3, .val (.int x)] (.int x :: st) h := e_go dX3_moves_76 rfl rfl
theorem wX3_moves_78 : E_ d mX3_moves 78 ls [.int x2, .int x1] h = (xP 7 [.int x1, .int x2] h).bind fun r => E_ d mX3_moves 81 ls (xpu r.1 []) r.2 := e_staP dX3_moves_78 rfl (Nat.le_of_ble_eq_true rfl) rfl rfl rfl (Nat.le_of_ble_eq_true rfl)
theorem wX3_moves_81 : E_ d mX3_moves 81 [s0, s1, s2, s3, s4] (.int x :: st) h = E_ d mX3_moves 82 [s0, xk s1, .val (.int x), s3, s4] st h := e_go dX3_moves_81 rfl rfl
theorem wX3_moves_82 : E_ d mX3_moves 82 ls st h = E_ d mX3_moves 118 ls st h := e_gt dX3_moves_82 rfl
theorem wX3_moves_85 : E_ d mX3_moves 85 [.val (.ref a), s1, s2, s3, s4] st h = E_ d mX3_moves 86 [.val (.ref a), s1, s2, s3, s4] (.ref a :: st) h := e_go dX3_moves_85 rfl rfl
theorem wX3_moves_86 (ht : oT h a = 5) : E_ d mX3_moves 86 ls (.ref a :: st) h = E_ d mX3_moves 89 ls (va_rf (oR h a 2) :: st) h := e_getR0 dX3_moves_86 rfl rfl ht
theorem wX3_moves_89 : E_ d mX3_moves 89 [s0, s1, s2, s3, .val (.int x)] st h = E_ d mX3_moves 91 [s0, s1, s2, s3, .val (.int x)] (.int x :: st) h := e_go dX3_moves_89 rfl rfl
theorem wX3_moves_91 (ht : oT h a = 40) (hi : xix x (oN h a) = true) : E_ d mX3_moves 91 ls (.int x :: .ref a :: st) h = E_ d mX3_moves 92 ls (.int (oI h a x.toNatClampNeg) :: st) h := e_iald dX3_moves_91 rfl ht hi
theorem wX3_moves_92 : E_ d mX3_moves 92 ls st h = E_ d mX3_moves 93 ls (.int (nI 2) :: st) h := e_iconst dX3_moves_92 kiconst_2 rfl
theorem wX3_moves_93 : E_ d mX3_moves 93 ls (.int y :: .int x :: st) h = if x = y then E_ d mX3_moves 106 ls st h else E_ d mX3_moves 96 ls st h := e_ieq dX3_moves_93 rfl rfl
theorem wX3_moves_96 : E_ d mX3_moves 96 [.val (.ref a), s1, s2, s3, s4] st h = E_ d mX3_moves 97 [.val (.ref a), s1, s2, s3, s4] (.ref a :: st) h := e_go dX3_moves_96 rfl rfl
theorem wX3_moves_97 (ht : oT h a = 5) : E_ d mX3_moves 97 ls (.ref a :: st) h = E_ d mX3_moves 100 ls (va_rf (oR h a 3) :: st) h := e_getR0 dX3_moves_97 rfl rfl ht
theorem wX3_moves_100 : E_ d mX3_moves 100 [s0, s1, s2, s3, .val (.int x)] st h = E_ d mX3_moves 102 [s0, s1, s2, s3, .val (.int x)] (.int x :: st) h := e_go dX3_moves_100 rfl rfl
theorem wX3_moves_102 (ht : oT h a = 41 ∨ oT h a = 42) (hi : xix x (oN h a) = true) : E_ d mX3_moves 102 ls (.int x :: .ref a :: st) h = E_ d mX3_moves 103 ls (.int (oI h a x.toNatClampNeg) :: st) h := e_bald dX3_moves_102 rfl ht hi
theorem wX3_moves_103 : E_ d mX3_moves 103 ls (.int x :: st) h = if x = 0 then E_ d mX3_moves 118 ls st h else E_ d mX3_moves 106 ls st h := e_zeq dX3_moves_103 rfl rfl
theorem wX3_moves_106 : E_ d mX3_moves 106 [s0, s1, s2, .val (.int x), s4] st h = E_ d mX3_moves 107 [s0, s1, s2, .val (.int x), s4] (.int x :: st) h := e_go dX3_moves_106 rfl rfl
theorem wX3_moves_107 : E_ d mX3_moves 107 [.val (.ref a), s1, s2, s3, s4] st h = E_ d mX3_moves 108 [.val (.ref a), s1, s2, s3, s4] (.ref a :: st) h := e_go dX3_moves_107 rfl rfl
theorem wX3_moves_108 (ht : oT h a = 5) : E_ d mX3_moves 108 ls (.ref a :: st) h = E_ d mX3_moves 111 ls (va_rf (oR h a 0) :: st) h := e_getR0 dX3_moves_108 rfl rfl ht
theorem wX3_moves_111 : E_ d mX3_moves 111 [s0, s1, s2, s3, .val (.int x)] st h = E_ d mX3_moves 113 [s0, s1, s2, s3, .val (.int x)] (.int x :: st) h := e_go dX3_moves_111 rfl rfl
theorem wX3_moves_113 (ht : oT h a = 40) (hi : xix x (oN h a) = true) : E_ d mX3_moves 113 ls (.int x :: .ref a :: st) h = E_ d mX3_moves 114 ls (.int (oI h a x.toNatClampNeg) :: st) h := e_iald dX3_moves_113 rfl ht hi
theorem wX3_moves_114 : E_ d mX3_moves 114 ls [.int x2, .int x1] h = (xP 6 [.int x1, .int x2] h).bind fun r => E_ d mX3_moves 117 ls (xpu r.1 []) r.2 := e_staP dX3_moves_114 rfl (Nat.le_of_ble_eq_true rfl) rfl rfl rfl (Nat.le_of_ble_eq_true rfl)
theorem wX3_moves_117 : E_ d mX3_moves 117 [s0, s1, s2, s3, s4] (.int x :: st) h = E_ d mX3_moves 118 [s0, s1, xk s2, .val (.int x), s4] st h := e_go dX3_moves_117 rfl rfl
theorem wX3_moves_118 : E_ d mX3_moves 118 [.val (.ref a), s1, s2, s3, s4] st h = E_ d mX3_moves 119 [.val (.ref a), s1, s2, s3, s4] (.ref a :: st) h := e_go dX3_moves_118 rfl rfl
theorem wX3_moves_119 : E_ d mX3_moves 119 [s0, .val (.int x), s2, s3, s4] st h = E_ d mX3_moves 120 [s0, .val (.int x), s2, s3, s4] (.int x :: st) h := e_go dX3_moves_119 rfl rfl
theorem wX3_moves_120 (ht : oT h a = 5) : E_ (d + 1) mX3_moves 120 ls [.int x1, .ref a] h = (C_ d mX3_nearest [.ref a, .int x1] h).bind fun r => E_ (d + 1) mX3_moves 123 ls (xpu r.1 []) r.2 := e_vir dX3_moves_120 rfl rfl rfl rfl rfl rfl (Nat.le_of_ble_eq_true rfl) (Nat.le_of_ble_eq_true rfl) ht
theorem wX3_moves_123 : E_ d mX3_moves 123 [s0, s1, s2, s3, s4] (.int x :: st) h = E_ d mX3_moves 125 [s0, s1, s2, xk s3, .val (.int x)] st h := e_go dX3_moves_123 rfl rfl
theorem wX3_moves_125 : E_ d mX3_moves 125 ls st h = E_ d mX3_moves 34 ls st h := e_gt dX3_moves_125 rfl
theorem wX3_moves_128 : E_ d mX3_moves 128 [s0, s1, .val (.int x), s3, s4] st h = E_ d mX3_moves 129 [s0, s1, .val (.int x), s3, s4] (.int x :: st) h := e_go dX3_moves_128 rfl rfl
theorem wX3_moves_129 : E_ d mX3_moves 129 ls [.int x] h = some (some (.int x), h) := e_rt dX3_moves_129 rfl rfl
/-! FootOut$Walk.nearest -/
theorem wX3_nearest_0 : E_ d mX3_nearest 0 ls st h = E_ d mX3_nearest 1 ls (.int ((-1)) :: st) h := e_iconst dX3_nearest_0 kiconst_m1 rfl
theorem wX3_nearest_1 : E_ d mX3_nearest 1 [s0, s1, s2, s3] (.int x :: st) h = E_ d mX3_nearest 2 [s0, xk s1, .val (.int x), s3] st h := e_go dX3_nearest_1 rfl rfl
theorem wX3_nearest_2 : E_ d mX3_nearest 2 ls st h = E_ d mX3_nearest 3 ls (.int (nI 0) :: st) h := e_iconst dX3_nearest_2 kiconst_0 rfl
theorem wX3_nearest_3 : E_ d mX3_nearest 3 [s0, s1, s2, s3] (.int x :: st) h = E_ d mX3_nearest 4 [s0, s1, xk s2, .val (.int x)] st h := e_go dX3_nearest_3 rfl rfl
theorem wX3_nearest_4 : E_ d mX3_nearest 4 [s0, s1, s2, .val (.int x)] st h = E_ d mX3_nearest 5 [s0, s1, s2, .val (.int x)] (.int x :: st) h := e_go dX3_nearest_4 rfl rfl
theorem wX3_nearest_5 : E_ d mX3_nearest 5 [.val (.ref a), s1, s2, s3] st h = E_ d mX3_nearest 6 [.val (.ref a), s1, s2, s3] (.ref a :: st) h := e_go dX3_nearest_5 rfl rfl
theorem wX3_nearest_6 (ht : oT h a = 5) : E_ (d + 1) mX3_nearest 6 ls [.ref a, .int x1] h = (C_ d mX3_many [.ref a] h).bind fun r => E_ (d + 1) mX3_nearest 9 ls (xpu r.1 [.int x1]) r.2 := e_vir dX3_nearest_6 rfl rfl rfl rfl rfl rfl (Nat.le_of_ble_eq_true rfl) (Nat.le_of_ble_eq_true rfl) ht
theorem wX3_nearest_9 : E_ d mX3_nearest 9 ls (.int y :: .int x :: st) h = if x < y then E_ d mX3_nearest 12 ls st h else E_ d mX3_nearest 70 ls st h := e_ige dX3_nearest_9 rfl rfl
theorem wX3_nearest_12 : E_ d mX3_nearest 12 [.val (.ref a), s1, s2, s3] st h = E_ d mX3_nearest 13 [.val (.ref a), s1, s2, s3] (.ref a :: st) h := e_go dX3_nearest_12 rfl rfl
theorem wX3_nearest_13 : E_ d mX3_nearest 13 [s0, s1, s2, .val (.int x)] st h = E_ d mX3_nearest 14 [s0, s1, s2, .val (.int x)] (.int x :: st) h := e_go dX3_nearest_13 rfl rfl
theorem wX3_nearest_14 (ht : oT h a = 5) : E_ (d + 1) mX3_nearest 14 ls [.int x1, .ref a] h = (C_ d mX3_car [.ref a, .int x1] h).bind fun r => E_ (d + 1) mX3_nearest 17 ls (xpu r.1 []) r.2 := e_vir dX3_nearest_14 rfl rfl rfl rfl rfl rfl (Nat.le_of_ble_eq_true rfl) (Nat.le_of_ble_eq_true rfl) ht
theorem wX3_nearest_17 (ht : oT h a = 9) : E_ d mX3_nearest 17 ls (.ref a :: st) h = E_ d mX3_nearest 20 ls (.int (oI h a 0) :: st) h := e_getI0 dX3_nearest_17 rfl rfl ht
theorem wX3_nearest_20 : E_ d mX3_nearest 20 [s0, .val (.int x), s2, s3] st h = E_ d mX3_nearest 21 [s0, .val (.int x), s2, s3] (.int x :: st) h := e_go dX3_nearest_20 rfl rfl
theorem wX3_nearest_21 : E_ d mX3_nearest 21 ls (.int y :: .int x :: st) h = if x = y then E_ d mX3_nearest 24 ls st h else E_ d mX3_nearest 64 ls st h := e_ine dX3_nearest_21 rfl rfl
theorem wX3_nearest_24 : E_ d mX3_nearest 24 [.val (.ref a), s1, s2, s3] st h = E_ d mX3_nearest 25 [.val (.ref a), s1, s2, s3] (.ref a :: st) h := e_go dX3_nearest_24 rfl rfl
theorem wX3_nearest_25 (ht : oT h a = 5) : E_ d mX3_nearest 25 ls (.ref a :: st) h = E_ d mX3_nearest 28 ls (va_rf (oR h a 4) :: st) h := e_getR0 dX3_nearest_25 rfl rfl ht
theorem wX3_nearest_28 : E_ d mX3_nearest 28 [s0, s1, s2, .val (.int x)] st h = E_ d mX3_nearest 29 [s0, s1, s2, .val (.int x)] (.int x :: st) h := e_go dX3_nearest_28 rfl rfl
theorem wX3_nearest_29 (ht : oT h a = 41 ∨ oT h a = 42) (hi : xix x (oN h a) = true) : E_ d mX3_nearest 29 ls (.int x :: .ref a :: st) h = E_ d mX3_nearest 30 ls (.int (oI h a x.toNatClampNeg) :: st) h := e_bald dX3_nearest_29 rfl ht hi
theorem wX3_nearest_30 : E_ d mX3_nearest 30 ls (.int x :: st) h = if x = 0 then E_ d mX3_nearest 33 ls st h else E_ d mX3_nearest 64 ls st h := e_zne dX3_nearest_30 rfl rfl
theorem wX3_nearest_33 : E_ d mX3_nearest 33 [.val (.ref a), s1, s2, s3] st h = E_ d mX3_nearest 34 [.val (.ref a), s1, s2, s3] (.ref a :: st) h := e_go dX3_nearest_33 rfl rfl
theorem wX3_nearest_34 (ht : oT h a = 5) : E_ d mX3_nearest 34 ls (.ref a :: st) h = E_ d mX3_nearest 37 ls (va_rf (oR h a 0) :: st) h := e_getR0 dX3_nearest_34 rfl rfl ht
theorem wX3_nearest_37 : E_ d mX3_nearest 37 [s0, s1, s2, .val (.int x)] st h = E_ d mX3_nearest 38 [s0, s1, s2, .val (.int x)] (.int x :: st) h := e_go dX3_nearest_37 rfl rfl
theorem wX3_nearest_38 (ht : oT h a = 40) (hi : xix x (oN h a) = true) : E_ d mX3_nearest 38 ls (.int x :: .ref a :: st) h = E_ d mX3_nearest 39 ls (.int (oI h a x.toNatClampNeg) :: st) h := e_iald dX3_nearest_38 rfl ht hi
theorem wX3_nearest_39 : E_ d mX3_nearest 39 ls (.int x :: st) h = if 0 < x then E_ d mX3_nearest 42 ls st h else E_ d mX3_nearest 64 ls st h := e_zle dX3_nearest_39 rfl rfl
theorem wX3_nearest_42 : E_ d mX3_nearest 42 [s0, s1, .val (.int x), s3] st h = E_ d mX3_nearest 43 [s0, s1, .val (.int x), s3] (.int x :: st) h := e_go dX3_nearest_42 rfl rfl
theorem wX3_nearest_43 : E_ d mX3_nearest 43 ls st h = E_ d mX3_nearest 44 ls (.int ((-1)) :: st) h := e_iconst dX3_nearest_43 kiconst_m1 rfl
theorem wX3_nearest_44 : E_ d mX3_nearest 44 ls (.int y :: .int x :: st) h = if x = y then E_ d mX3_nearest 62 ls st h else E_ d mX3_nearest 47 ls st h := e_ieq dX3_nearest_44 rfl rfl
theorem wX3_nearest_47 : E_ d mX3_nearest 47 [.val (.ref a), s1, s2, s3] st h = E_ d mX3_nearest 48 [.val (.ref a), s1, s2, s3] (.ref a :: st) h := e_go dX3_nearest_47 rfl rfl
theorem wX3_nearest_48 (ht : oT h a = 5) : E_ d mX3_nearest 48 ls (.ref a :: st) h = E_ d mX3_nearest 51 ls (va_rf (oR h a 0) :: st) h := e_getR0 dX3_nearest_48 rfl rfl ht
theorem wX3_nearest_51 : E_ d mX3_nearest 51 [s0, s1, s2, .val (.int x)] st h = E_ d mX3_nearest 52 [s0, s1, s2, .val (.int x)] (.int x :: st) h := e_go dX3_nearest_51 rfl rfl
theorem wX3_nearest_52 (ht : oT h a = 40) (hi : xix x (oN h a) = true) : E_ d mX3_nearest 52 ls (.int x :: .ref a :: st) h = E_ d mX3_nearest 53 ls (.int (oI h a x.toNatClampNeg) :: st) h := e_iald dX3_nearest_52 rfl ht hi
theorem wX3_nearest_53 : E_ d mX3_nearest 53 [.val (.ref a), s1, s2, s3] st h = E_ d mX3_nearest 54 [.val (.ref a), s1, s2, s3] (.ref a :: st) h := e_go dX3_nearest_53 rfl rfl
theorem wX3_nearest_54 (ht : oT h a = 5) : E_ d mX3_nearest 54 ls (.ref a :: st) h = E_ d mX3_nearest 57 ls (va_rf (oR h a 0) :: st) h := e_getR0 dX3_nearest_54 rfl rfl ht
theorem wX3_nearest_57 : E_ d mX3_nearest 57 [s0, s1, .val (.int x), s3] st h = E_ d mX3_nearest 58 [s0, s1, .val (.int x), s3] (.int x :: st) h := e_go dX3_nearest_57 rfl rfl
theorem wX3_nearest_58 (ht : oT h a = 40) (hi : xix x (oN h a) = true) : E_ d mX3_nearest 58 ls (.int x :: .ref a :: st) h = E_ d mX3_nearest 59 ls (.int (oI h a x.toNatClampNeg) :: st) h := e_iald dX3_nearest_58 rfl ht hi
theorem wX3_nearest_59 : E_ d mX3_nearest 59 ls (.int y :: .int x :: st) h = if x < y then E_ d mX3_nearest 62 ls st h else E_ d mX3_nearest 64 ls st h := e_ige dX3_nearest_59 rfl rfl
theorem wX3_nearest_62 : E_ d mX3_nearest 62 [s0, s1, s2, .val (.int x)] st h = E_ d mX3_nearest 63 [s0, s1, s2, .val (.int x)] (.int x :: st) h := e_go dX3_nearest_62 rfl rfl
theorem wX3_nearest_63 : E_ d mX3_nearest 63 [s0, s1, s2, s3] (.int x :: st) h = E_ d mX3_nearest 64 [s0, xk s1, .val (.int x), s3] st h := e_go dX3_nearest_63 rfl rfl
theorem wX3_nearest_64 : E_ d mX3_nearest 64 [s0, s1, s2, .val (.int x)] st h = E_ d mX3_nearest 67 [s0, s1, xk s2, .val (.int (x + nI 1))] st h := by rw [← kiinc_1]; exact e_go dX3_nearest_64 rfl rfl
theorem wX3_nearest_67 : E_ d mX3_nearest 67 ls st h = E_ d mX3_nearest 4 ls st h := e_gt dX3_nearest_67 rfl
theorem wX3_nearest_70 : E_ d mX3_nearest 70 [s0, s1, .val (.int x), s3] st h = E_ d mX3_nearest 71 [s0, s1, .val (.int x), s3] (.int x :: st) h := e_go dX3_nearest_70 rfl rfl
theorem wX3_nearest_71 : E_ d mX3_nearest 71 ls [.int x] h = some (some (.int x), h) := e_rt dX3_nearest_71 rfl rfl
/-! FootOut$Walk.goes -/
theorem wX3_goes_0 : E_ d mX3_goes 0 [.val (.ref a), s1, s2, s3, s4] st h = E_ d mX3_goes 1 [.val (.ref a), s1, s2, s3, s4] (.ref a :: st) h := e_go dX3_goes_0 rfl rfl
theorem wX3_goes_1 (ht : oT h a = 5) : E_ d mX3_goes 1 ls (.ref a :: st) h = E_ d mX3_goes 4 ls (va_rf (oR h a 3) :: st) h := e_getR0 dX3_goes_1 rfl rfl ht
theorem wX3_goes_4 : E_ d mX3_goes 4 [s0, .val (.int x), s2, s3, s4] st h = E_ d mX3_goes 5 [s0, .val (.int x), s2, s3, s4] (.int x :: st) h := e_go dX3_goes_4 rfl rfl
theorem wX3_goes_5 : E_ d mX3_goes 5 ls st h = E_ d mX3_goes 6 ls (.int (nI 0) :: st) h := e_iconst dX3_goes_5 kiconst_0 rfl
theorem wX3_goes_6 (ht : oT h a = 41) (hi : xix x (oN h a) = true) : E_ d mX3_goes 6 ls (.int y :: .int x :: .ref a :: st) h = E_ d mX3_goes 7 ls st (pI h a (va_up (oI h a) x.toNatClampNeg (vp_nar .byte y))) := e_bast dX3_goes_6 rfl ht hi
theorem wX3_goes_6z (ht : oT h a = 42) (hi : xix x (oN h a) = true) : E_ d mX3_goes 6 ls (.int y :: .int x :: .ref a :: st) h = E_ d mX3_goes 7 ls st (pI h a (va_up (oI h a) x.toNatClampNeg (vp_nar .boolean y))) := e_zast dX3_goes_6 rfl ht hi
theorem wX3_goes_7 : E_ d mX3_goes 7 [.val (.ref a), s1, s2, s3, s4] st h = E_ d mX3_goes 8 [.val (.ref a), s1, s2, s3, s4] (.ref a :: st) h := e_go dX3_goes_7 rfl rfl
theorem wX3_goes_8 (ht : oT h a = 5) : E_ d mX3_goes 8 ls (.ref a :: st) h = E_ d mX3_goes 11 ls (va_rf (oR h a 2) :: st) h := e_getR0 dX3_goes_8 rfl rfl ht
theorem wX3_goes_11 : E_ d mX3_goes 11 [s0, .val (.int x), s2, s3, s4] st h = E_ d mX3_goes 12 [s0, .val (.int x), s2, s3, s4] (.int x :: st) h := e_go dX3_goes_11 rfl rfl
theorem wX3_goes_12 (ht : oT h a = 40) (hi : xix x (oN h a) = true) : E_ d mX3_goes 12 ls (.int x :: .ref a :: st) h = E_ d mX3_goes 13 ls (.int (oI h a x.toNatClampNeg) :: st) h := e_iald dX3_goes_12 rfl ht hi
theorem wX3_goes_13 : E_ d mX3_goes 13 ls st h = E_ d mX3_goes 14 ls (.int (nI 2) :: st) h := e_iconst dX3_goes_13 kiconst_2 rfl
theorem wX3_goes_14 : E_ d mX3_goes 14 ls (.int y :: .int x :: st) h = if x = y then E_ d mX3_goes 17 ls st h else E_ d mX3_goes 51 ls st h := e_ine dX3_goes_14 rfl rfl
theorem wX3_goes_17 : E_ d mX3_goes 17 [.val (.ref a), s1, s2, s3, s4] st h = E_ d mX3_goes 18 [.val (.ref a), s1, s2, s3, s4] (.ref a :: st) h := e_go dX3_goes_17 rfl rfl
theorem wX3_goes_18 (ht : oT h a = 5) : E_ d mX3_goes 18 ls (.ref a :: st) h = E_ d mX3_goes 21 ls (va_rf (oR h a 1) :: st) h := e_getR0 dX3_goes_18 rfl rfl ht
theorem wX3_goes_21 : E_ d mX3_goes 21 [s0, .val (.int x), s2, s3, s4] st h = E_ d mX3_goes 22 [s0, .val (.int x), s2, s3, s4] (.int x :: st) h := e_go dX3_goes_21 rfl rfl
theorem wX3_goes_22 : E_ d mX3_goes 22 ls st h = E_ d mX3_goes 23 ls (.int (nI 0) :: st) h := e_iconst dX3_goes_22 kiconst_0 rfl
theorem wX3_goes_23 : E_ d mX3_goes 23 [.val (.ref a), s1, s2, s3, s4] st h = E_ d mX3_goes 24 [.val (.ref a), s1, s2, s3, s4] (.ref a :: st) h := e_go dX3_goes_23 rfl rfl
theorem wX3_goes_24 (ht : oT h a = 5) : E_ d mX3_goes 24 ls (.ref a :: st) h = E_ d mX3_goes 27 ls (va_rf (oR h a 1) :: st) h := e_getR0 dX3_goes_24 rfl rfl ht
theorem wX3_goes_27 : E_ d mX3_goes 27 [s0, .val (.int x), s2, s3, s4] st h = E_ d mX3_goes 28 [s0, .val (.int x), s2, s3, s4] (.int x :: st) h := e_go dX3_goes_27 rfl rfl
theorem wX3_goes_28 (ht : oT h a = 40) (hi : xix x (oN h a) = true) : E_ d mX3_goes 28 ls (.int x :: .ref a :: st) h = E_ d mX3_goes 29 ls (.int (oI h a x.toNatClampNeg) :: st) h := e_iald dX3_goes_28 rfl ht hi
theorem wX3_goes_29 : E_ d mX3_goes 29 ls st h = E_ d mX3_goes 30 ls (.int (nI 1) :: st) h := e_iconst dX3_goes_29 kiconst_1 rfl
theorem wX3_goes_30 : E_ d mX3_goes 30 ls (.int y :: .int x :: st) h = E_ d mX3_goes 31 ls (.int (x - y) :: st) h := e_go dX3_goes_30 rfl rfl
theorem wX3_goes_31 : E_ d mX3_goes 31 ls [.int x2, .int x1, .int x3, .ref r1] h = (xP 6 [.int x1, .int x2] h).bind fun r => E_ d mX3_goes 34 ls (xpu r.1 [.int x3, .ref r1]) r.2 := e_staP dX3_goes_31 rfl (Nat.le_of_ble_eq_true rfl) rfl rfl rfl (Nat.le_of_ble_eq_true rfl)
theorem wX3_goes_34 (ht : oT h a = 40) (hi : xix x (oN h a) = true) : E_ d mX3_goes 34 ls (.int y :: .int x :: .ref a :: st) h = E_ d mX3_goes 35 ls st (pI h a (va_up (oI h a) x.toNatClampNeg y)) := e_iast dX3_goes_34 rfl ht hi
theorem wX3_goes_35 : E_ d mX3_goes 35 [.val (.ref a), s1, s2, s3, s4] st h = E_ d mX3_goes 36 [.val (.ref a), s1, s2, s3, s4] (.ref a :: st) h := e_go dX3_goes_35 rfl rfl
theorem wX3_goes_36 (ht : oT h a = 5) : E_ d mX3_goes 36 ls (.ref a :: st) h = E_ d mX3_goes 39 ls (va_rf (oR h a 0) :: st) h := e_getR0 dX3_goes_36 rfl rfl ht
theorem wX3_goes_39 : E_ d mX3_goes 39 [s0, .val (.int x), s2, s3, s4] st h = E_ d mX3_goes 40 [s0, .val (.int x), s2, s3, s4] (.int x :: st) h := e_go dX3_goes_39 rfl rfl
theorem wX3_goes_40 : E_ d mX3_goes 40 ls (.int x :: .ref b :: st) h = E_ d mX3_goes 41 ls (.int x :: .ref b :: .int x :: .ref b :: st) h := e_go dX3_goes_40 rfl rfl
theorem wX3_goes_41 (ht : oT h a = 40) (hi : xix x (oN h a) = true) : E_ d mX3_goes 41 ls (.int x :: .ref a :: st) h = E_ d mX3_goes 42 ls (.int (oI h a x.toNatClampNeg) :: st) h := e_iald dX3_goes_41 rfl ht hi
theorem wX3_goes_42 : E_ d mX3_goes 42 [.val (.ref a), s1, s2, s3, s4] st h = E_ d mX3_goes 43 [.val (.ref a), s1, s2, s3, s4] (.ref a :: st) h := e_go dX3_goes_42 rfl rfl
theorem wX3_goes_43 (ht : oT h a = 5) : E_ d mX3_goes 43 ls (.ref a :: st) h = E_ d mX3_goes 46 ls (va_rf (oR h a 1) :: st) h := e_getR0 dX3_goes_43 rfl rfl ht
theorem wX3_goes_46 : E_ d mX3_goes 46 [s0, .val (.int x), s2, s3, s4] st h = E_ d mX3_goes 47 [s0, .val (.int x), s2, s3, s4] (.int x :: st) h := e_go dX3_goes_46 rfl rfl
theorem wX3_goes_47 (ht : oT h a = 40) (hi : xix x (oN h a) = true) : E_ d mX3_goes 47 ls (.int x :: .ref a :: st) h = E_ d mX3_goes 48 ls (.int (oI h a x.toNatClampNeg) :: st) h := e_iald dX3_goes_47 rfl ht hi
theorem wX3_goes_48 : E_ d mX3_goes 48 ls (.int y :: .int x :: st) h = E_ d mX3_goes 49 ls (.int (x - y) :: st) h := e_go dX3_goes_48 rfl rfl
theorem wX3_goes_49 (ht : oT h a = 40) (hi : xix x (oN h a) = true) : E_ d mX3_goes 49 ls (.int y :: .int x :: .ref a :: st) h = E_ d mX3_goes 50 ls st (pI h a (va_up (oI h a) x.toNatClampNeg y)) := e_iast dX3_goes_49 rfl ht hi
theorem wX3_goes_50 : E_ d mX3_goes 50 ls [] h = some (none, h) := e_rt dX3_goes_50 rfl rfl
theorem wX3_goes_51 : E_ d mX3_goes 51 [.val (.ref a), s1, s2, s3, s4] st h = E_ d mX3_goes 52 [.val (.ref a), s1, s2, s3, s4] (.ref a :: st) h := e_go dX3_goes_51 rfl rfl
theorem wX3_goes_52 (ht : oT h a = 5) : E_ d mX3_goes 52 ls (.ref a :: st) h = E_ d mX3_goes 55 ls (va_rf (oR h a 0) :: st) h := e_getR0 dX3_goes_52 rfl rfl ht
theorem wX3_goes_55 : E_ d mX3_goes 55 [s0, .val (.int x), s2, s3, s4] st h = E_ d mX3_goes 56 [s0, .val (.int x), s2, s3, s4] (.int x :: st) h := e_go dX3_goes_55 rfl rfl
theorem wX3_goes_56 (ht : oT h a = 40) (hi : xix x (oN h a) = true) : E_ d mX3_goes 56 ls (.int x :: .ref a :: st) h = E_ d mX3_goes 57 ls (.int (oI h a x.toNatClampNeg) :: st) h := e_iald dX3_goes_56 rfl ht hi
theorem wX3_goes_57 : E_ d mX3_goes 57 [.val (.ref a), s1, s2, s3, s4] st h = E_ d mX3_goes 58 [.val (.ref a), s1, s2, s3, s4] (.ref a :: st) h := e_go dX3_goes_57 rfl rfl
theorem wX3_goes_58 (ht : oT h a = 5) : E_ d mX3_goes 58 ls (.ref a :: st) h = E_ d mX3_goes 61 ls (va_rf (oR h a 1) :: st) h := e_getR0 dX3_goes_58 rfl rfl ht
theorem wX3_goes_61 : E_ d mX3_goes 61 [s0, .val (.int x), s2, s3, s4] st h = E_ d mX3_goes 62 [s0, .val (.int x), s2, s3, s4] (.int x :: st) h := e_go dX3_goes_61 rfl rfl
theorem wX3_goes_62 (ht : oT h a = 40) (hi : xix x (oN h a) = true) : E_ d mX3_goes 62 ls (.int x :: .ref a :: st) h = E_ d mX3_goes 63 ls (.int (oI h a x.toNatClampNeg) :: st) h := e_iald dX3_goes_62 rfl ht hi
theorem wX3_goes_63 : E_ d mX3_goes 63 ls (.int y :: .int x :: st) h = E_ d mX3_goes 64 ls (.int (x - y) :: st) h := e_go dX3_goes_63 rfl rfl
theorem wX3_goes_64 : E_ d mX3_goes 64 [s0, s1, s2, s3, s4] (.int x :: st) h = E_ d mX3_goes 65 [s0, s1, xk s2, .val (.int x), s4] st h := e_go dX3_goes_64 rfl rfl
theorem wX3_goes_65 : E_ d mX3_goes 65 [s0, s1, .val (.int x), s3, s4] st h = E_ d mX3_goes 66 [s0, s1, .val (.int x), s3, s4] (.int x :: st) h := e_go dX3_goes_65 rfl rfl
theorem wX3_goes_66 : E_ d mX3_goes 66 ls st h = E_ d mX3_goes 67 ls (.int ((-1)) :: st) h := e_iconst dX3_goes_66 kiconst_m1 rfl
theorem wX3_goes_67 : E_ d mX3_goes 67 ls (.int y :: .int x :: st) h = if x = y then E_ d mX3_goes 70 ls st h else E_ d mX3_goes 74 ls st h := e_ine dX3_goes_67 rfl rfl
theorem wX3_goes_70 : E_ d mX3_goes 70 [s0, s1, s2, .val (.int x), s4] st h = E_ d mX3_goes 71 [s0, s1, s2, .val (.int x), s4] (.int x :: st) h := e_go dX3_goes_70 rfl rfl
theorem wX3_goes_71 : E_ d mX3_goes 71 ls st h = E_ d mX3_goes 86 ls st h := e_gt dX3_goes_71 rfl
theorem wX3_goes_74 : E_ d mX3_goes 74 [.val (.ref a), s1, s2, s3, s4] st h = E_ d mX3_goes 75 [.val (.ref a), s1, s2, s3, s4] (.ref a :: st) h := e_go dX3_goes_74 rfl rfl
theorem wX3_goes_75 (ht : oT h a = 5) : E_ d mX3_goes 75 ls (.ref a :: st) h = E_ d mX3_goes 78 ls (va_rf (oR h a 0) :: st) h := e_getR0 dX3_goes_75 rfl rfl ht
theorem wX3_goes_78 : E_ d mX3_goes 78 [s0, .val (.int x), s2, s3, s4] st h = E_ d mX3_goes 79 [s0, .val (.int x), s2, s3, s4] (.int x :: st) h := e_go dX3_goes_78 rfl rfl
theorem wX3_goes_79 (ht : oT h a = 40) (hi : xix x (oN h a) = true) : E_ d mX3_goes 79 ls (.int x :: .ref a :: st) h = E_ d mX3_goes 80 ls (.int (oI h a x.toNatClampNeg) :: st) h := e_iald dX3_goes_79 rfl ht hi
theorem wX3_goes_80 : E_ d mX3_goes 80 [s0, s1, .val (.int x), s3, s4] st h = E_ d mX3_goes 81 [s0, s1, .val (.int x), s3, s4] (.int x :: st) h := e_go dX3_goes_80 rfl rfl
theorem wX3_goes_81 : E_ d mX3_goes 81 ls st h = E_ d mX3_goes 82 ls (.int (nI 2) :: st) h := e_iconst dX3_goes_81 kiconst_2 rfl
theorem wX3_goes_82 : E_ d mX3_goes 82 ls (.int y :: .int x :: st) h = E_ d mX3_goes 83 ls (.int (x + y) :: st) h := e_go dX3_goes_82 rfl rfl
theorem wX3_goes_83 : E_ d mX3_goes 83 ls [.int x2, .int x1] h = (xP 7 [.int x1, .int x2] h).bind fun r => E_ d mX3_goes 86 ls (xpu r.1 []) r.2 := e_staP dX3_goes_83 rfl (Nat.le_of_ble_eq_true rfl) rfl rfl rfl (Nat.le_of_ble_eq_true rfl)
theorem wX3_goes_86 : E_ d mX3_goes 86 [s0, s1, s2, s3, s4] (.int x :: st) h = E_ d mX3_goes 88 [s0, s1, s2, xk s3, .val (.int x)] st h := e_go dX3_goes_86 rfl rfl
theorem wX3_goes_88 : E_ d mX3_goes 88 [.val (.ref a), s1, s2, s3, s4] st h = E_ d mX3_goes 89 [.val (.ref a), s1, s2, s3, s4] (.ref a :: st) h := e_go dX3_goes_88 rfl rfl
theorem wX3_goes_89 (ht : oT h a = 5) : E_ d mX3_goes 89 ls (.ref a :: st) h = E_ d mX3_goes 92 ls (va_rf (oR h a 3) :: st) h := e_getR0 dX3_goes_89 rfl rfl ht
theorem wX3_goes_92 : E_ d mX3_goes 92 [s0, .val (.int x), s2, s3, s4] st h = E_ d mX3_goes 93 [s0, .val (.int x), s2, s3, s4] (.int x :: st) h := e_go dX3_goes_92 rfl rfl
theorem wX3_goes_93 : E_ d mX3_goes 93 [s0, s1, s2, s3, .val (.int x)] st h = E_ d mX3_goes 95 [s0, s1, s2, s3, .val (.int x)] (.int x :: st) h := e_go dX3_goes_93 rfl rfl
theorem wX3_goes_95 : E_ d mX3_goes 95 [s0, s1, s2, .val (.int x), s4] st h = E_ d mX3_goes 96 [s0, s1, s2, .val (.int x), s4] (.int x :: st) h := e_go dX3_goes_95 rfl rfl
theorem wX3_goes_96 : E_ d mX3_goes 96 ls (.int y :: .int x :: st) h = if y < x then E_ d mX3_goes 99 ls st h else E_ d mX3_goes 103 ls st h := e_ile dX3_goes_96 rfl rfl
theorem wX3_goes_99 : E_ d mX3_goes 99 ls st h = E_ d mX3_goes 100 ls (.int (nI 1) :: st) h := e_iconst dX3_goes_99 kiconst_1 rfl
theorem wX3_goes_100 : E_ d mX3_goes 100 ls st h = E_ d mX3_goes 104 ls st h := e_gt dX3_goes_100 rfl
theorem wX3_goes_103 : E_ d mX3_goes 103 ls st h = E_ d mX3_goes 104 ls (.int (nI 0) :: st) h := e_iconst dX3_goes_103 kiconst_0 rfl
theorem wX3_goes_104 (ht : oT h a = 41) (hi : xix x (oN h a) = true) : E_ d mX3_goes 104 ls (.int y :: .int x :: .ref a :: st) h = E_ d mX3_goes 105 ls st (pI h a (va_up (oI h a) x.toNatClampNeg (vp_nar .byte y))) := e_bast dX3_goes_104 rfl ht hi
theorem wX3_goes_104z (ht : oT h a = 42) (hi : xix x (oN h a) = true) : E_ d mX3_goes 104 ls (.int y :: .int x :: .ref a :: st) h = E_ d mX3_goes 105 ls st (pI h a (va_up (oI h a) x.toNatClampNeg (vp_nar .boolean y))) := e_zast dX3_goes_104 rfl ht hi
theorem wX3_goes_105 : E_ d mX3_goes 105 [.val (.ref a), s1, s2, s3, s4] st h = E_ d mX3_goes 106 [.val (.ref a), s1, s2, s3, s4] (.ref a :: st) h := e_go dX3_goes_105 rfl rfl
theorem wX3_goes_106 (ht : oT h a = 5) : E_ d mX3_goes 106 ls (.ref a :: st) h = E_ d mX3_goes 109 ls (va_rf (oR h a 0) :: st) h := e_getR0 dX3_goes_106 rfl rfl ht
theorem wX3_goes_109 : E_ d mX3_goes 109 [s0, .val (.int x), s2, s3, s4] st h = E_ d mX3_goes 110 [s0, .val (.int x), s2, s3, s4] (.int x :: st) h := e_go dX3_goes_109 rfl rfl
theorem wX3_goes_110 : E_ d mX3_goes 110 [s0, s1, s2, .val (.int x), s4] st h = E_ d mX3_goes 111 [s0, s1, s2, .val (.int x), s4] (.int x :: st) h := e_go dX3_goes_110 rfl rfl
theorem wX3_goes_111 : E_ d mX3_goes 111 [s0, s1, s2, s3, .val (.int x)] st h = E_ d mX3_goes 113 [s0, s1, s2, s3, .val (.int x)] (.int x :: st) h := e_go dX3_goes_111 rfl rfl
theorem wX3_goes_113 : E_ d mX3_goes 113 ls [.int x2, .int x1, .int x3, .ref r1] h = (xP 6 [.int x1, .int x2] h).bind fun r => E_ d mX3_goes 116 ls (xpu r.1 [.int x3, .ref r1]) r.2 := e_staP dX3_goes_113 rfl (Nat.le_of_ble_eq_true rfl) rfl rfl rfl (Nat.le_of_ble_eq_true rfl)
theorem wX3_goes_116 (ht : oT h a = 40) (hi : xix x (oN h a) = true) : E_ d mX3_goes 116 ls (.int y :: .int x :: .ref a :: st) h = E_ d mX3_goes 117 ls st (pI h a (va_up (oI h a) x.toNatClampNeg y)) := e_iast dX3_goes_116 rfl ht hi
theorem wX3_goes_117 : E_ d mX3_goes 117 ls [] h = some (none, h) := e_rt dX3_goes_117 rfl rfl
/-! FootOut$Walk.crosses -/
theorem wX3_crosses_0 : E_ d mX3_crosses 0 [s0, .val (.int x)] st h = E_ d mX3_crosses 1 [s0, .val (.int x)] (.int x :: st) h := e_go dX3_crosses_0 rfl rfl
theorem wX3_crosses_1 : E_ d mX3_crosses 1 ls st h = E_ d mX3_crosses 2 ls (.int ((-1)) :: st) h := e_iconst dX3_crosses_1 kiconst_m1 rfl
theorem wX3_crosses_2 : E_ d mX3_crosses 2 ls (.int y :: .int x :: st) h = if x = y then E_ d mX3_crosses 53 ls st h else E_ d mX3_crosses 5 ls st h := e_ieq dX3_crosses_2 rfl rfl
theorem wX3_crosses_5 : E_ d mX3_crosses 5 [.val (.ref a), s1] st h = E_ d mX3_crosses 6 [.val (.ref a), s1] (.ref a :: st) h := e_go dX3_crosses_5 rfl rfl
theorem wX3_crosses_6 : E_ d mX3_crosses 6 ls st h = E_ d mX3_crosses 7 ls (.int (nI 2) :: st) h := e_iconst dX3_crosses_6 kiconst_2 rfl
theorem wX3_crosses_7 (ht : oT h a = 5) : E_ d mX3_crosses 7 ls (.int x :: .ref a :: st) h = E_ d mX3_crosses 10 ls st (pI h a (va_up (oI h a) 10 x)) := e_putI dX3_crosses_7 rfl rfl ht
theorem wX3_crosses_10 : E_ d mX3_crosses 10 [.val (.ref a), s1] st h = E_ d mX3_crosses 11 [.val (.ref a), s1] (.ref a :: st) h := e_go dX3_crosses_10 rfl rfl
theorem wX3_crosses_11 : E_ d mX3_crosses 11 [s0, .val (.int x)] st h = E_ d mX3_crosses 12 [s0, .val (.int x)] (.int x :: st) h := e_go dX3_crosses_11 rfl rfl
theorem wX3_crosses_12 (ht : oT h a = 5) : E_ d mX3_crosses 12 ls (.int x :: .ref a :: st) h = E_ d mX3_crosses 15 ls st (pI h a (va_up (oI h a) 11 x)) := e_putI dX3_crosses_12 rfl rfl ht
theorem wX3_crosses_15 : E_ d mX3_crosses 15 [.val (.ref a), s1] st h = E_ d mX3_crosses 16 [.val (.ref a), s1] (.ref a :: st) h := e_go dX3_crosses_15 rfl rfl
theorem wX3_crosses_16 : E_ d mX3_crosses 16 [.val (.ref a), s1] st h = E_ d mX3_crosses 17 [.val (.ref a), s1] (.ref a :: st) h := e_go dX3_crosses_16 rfl rfl
theorem wX3_crosses_17 (ht : oT h a = 5) : E_ d mX3_crosses 17 ls (.ref a :: st) h = E_ d mX3_crosses 20 ls (va_rf (oR h a 1) :: st) h := e_getR0 dX3_crosses_17 rfl rfl ht
theorem wX3_crosses_20 : E_ d mX3_crosses 20 [s0, .val (.int x)] st h = E_ d mX3_crosses 21 [s0, .val (.int x)] (.int x :: st) h := e_go dX3_crosses_20 rfl rfl
theorem wX3_crosses_21 (ht : oT h a = 40) (hi : xix x (oN h a) = true) : E_ d mX3_crosses 21 ls (.int x :: .ref a :: st) h = E_ d mX3_crosses 22 ls (.int (oI h a x.toNatClampNeg) :: st) h := e_iald dX3_crosses_21 rfl ht hi
theorem wX3_crosses_22 : E_ d mX3_crosses 22 [.val (.ref a), s1] st h = E_ d mX3_crosses 23 [.val (.ref a), s1] (.ref a :: st) h := e_go dX3_crosses_22 rfl rfl
theorem wX3_crosses_23 (ht : oT h a = 5) : E_ d mX3_crosses 23 ls (.ref a :: st) h = E_ d mX3_crosses 26 ls (va_rf (oR h a 1) :: st) h := e_getR0 dX3_crosses_23 rfl rfl ht
theorem wX3_crosses_26 : E_ d mX3_crosses 26 [s0, .val (.int x)] st h = E_ d mX3_crosses 27 [s0, .val (.int x)] (.int x :: st) h := e_go dX3_crosses_26 rfl rfl
theorem wX3_crosses_27 (ht : oT h a = 40) (hi : xix x (oN h a) = true) : E_ d mX3_crosses 27 ls (.int x :: .ref a :: st) h = E_ d mX3_crosses 28 ls (.int (oI h a x.toNatClampNeg) :: st) h := e_iald dX3_crosses_27 rfl ht hi
theorem wX3_crosses_28 : E_ d mX3_crosses 28 ls (.int y :: .int x :: st) h = E_ d mX3_crosses 29 ls (.int (x * y) :: st) h := e_go dX3_crosses_28 rfl rfl
theorem wX3_crosses_29 : E_ d mX3_crosses 29 [.val (.ref a), s1] st h = E_ d mX3_crosses 30 [.val (.ref a), s1] (.ref a :: st) h := e_go dX3_crosses_29 rfl rfl
theorem wX3_crosses_30 (ht : oT h a = 5) : E_ d mX3_crosses 30 ls (.ref a :: st) h = E_ d mX3_crosses 33 ls (va_rf (oR h a 5) :: st) h := e_getR dX3_crosses_30 rfl rfl ht
theorem wX3_crosses_33 (ht : oT h a = 3) : E_ d mX3_crosses 33 ls (.ref a :: st) h = E_ d mX3_crosses 36 ls (.int (oI h a 2) :: st) h := e_getI dX3_crosses_33 rfl rfl ht
theorem wX3_crosses_36 : E_ d mX3_crosses 36 ls st h = E_ d mX3_crosses 37 ls (.int (nI 0) :: st) h := e_iconst dX3_crosses_36 kiconst_0 rfl
theorem wX3_crosses_37 : E_ (d + 1) mX3_crosses 37 ls [.int x2, .int x1, .int x3, .ref r1] h = (C_ d mX0_has [.int x1, .int x2] h).bind fun r => E_ (d + 1) mX3_crosses 40 ls (xpu r.1 [.int x3, .ref r1]) r.2 := e_call dX3_crosses_37 rfl rfl
theorem wX3_crosses_40 : E_ d mX3_crosses 40 ls (.int x :: st) h = if x = 0 then E_ d mX3_crosses 47 ls st h else E_ d mX3_crosses 43 ls st h := e_zeq dX3_crosses_40 rfl rfl
theorem wX3_crosses_43 : E_ d mX3_crosses 43 ls st h = E_ d mX3_crosses 44 ls (.int (nI 2) :: st) h := e_iconst dX3_crosses_43 kiconst_2 rfl
theorem wX3_crosses_44 : E_ d mX3_crosses 44 ls st h = E_ d mX3_crosses 48 ls st h := e_gt dX3_crosses_44 rfl
theorem wX3_crosses_47 : E_ d mX3_crosses 47 ls st h = E_ d mX3_crosses 48 ls (.int (nI 1) :: st) h := e_iconst dX3_crosses_47 kiconst_1 rfl
theorem wX3_crosses_48 : E_ d mX3_crosses 48 ls (.int y :: .int x :: st) h = E_ d mX3_crosses 49 ls (.int (x * y) :: st) h := e_go dX3_crosses_48 rfl rfl
theorem wX3_crosses_49 (ht : oT h a = 5) : E_ d mX3_crosses 49 ls (.int x :: .ref a :: st) h = E_ d mX3_crosses 52 ls st (pI h a (va_up (oI h a) 12 x)) := e_putI dX3_crosses_49 rfl rfl ht
theorem wX3_crosses_52 : E_ d mX3_crosses 52 ls [] h = some (none, h) := e_rt dX3_crosses_52 rfl rfl
theorem wX3_crosses_53 : E_ d mX3_crosses 53 [.val (.ref a), s1] st h = E_ d mX3_crosses 54 [.val (.ref a), s1] (.ref a :: st) h := e_go dX3_crosses_53 rfl rfl
theorem wX3_crosses_54 : E_ d mX3_crosses 54 ls (.ref a :: st) h = E_ d mX3_crosses 55 ls (.ref a :: .ref a :: st) h := e_go dX3_crosses_54 rfl rfl
theorem wX3_crosses_55 (ht : oT h a = 5) : E_ d mX3_crosses 55 ls (.ref a :: st) h = E_ d mX3_crosses 58 ls (.int (oI h a 7) :: st) h := e_getI dX3_crosses_55 rfl rfl ht
theorem wX3_crosses_58 : E_ d mX3_crosses 58 ls st h = E_ d mX3_crosses 59 ls (.int (nI 1) :: st) h := e_iconst dX3_crosses_58 kiconst_1 rfl
theorem wX3_crosses_59 : E_ d mX3_crosses 59 ls (.int y :: .int x :: st) h = E_ d mX3_crosses 60 ls (.int (x - y) :: st) h := e_go dX3_crosses_59 rfl rfl
theorem wX3_crosses_60 (ht : oT h a = 5) : E_ d mX3_crosses 60 ls (.int x :: .ref a :: st) h = E_ d mX3_crosses 63 ls st (pI h a (va_up (oI h a) 7 x)) := e_putI dX3_crosses_60 rfl rfl ht
theorem wX3_crosses_63 : E_ d mX3_crosses 63 [.val (.ref a), s1] st h = E_ d mX3_crosses 64 [.val (.ref a), s1] (.ref a :: st) h := e_go dX3_crosses_63 rfl rfl
theorem wX3_crosses_64 : E_ d mX3_crosses 64 ls (.ref a :: st) h = E_ d mX3_crosses 65 ls (.ref a :: .ref a :: st) h := e_go dX3_crosses_64 rfl rfl
theorem wX3_crosses_65 (ht : oT h a = 5) : E_ d mX3_crosses 65 ls (.ref a :: st) h = E_ d mX3_crosses 68 ls (.int (oI h a 6) :: st) h := e_getI dX3_crosses_65 rfl rfl ht
theorem wX3_crosses_68 : E_ d mX3_crosses 68 [.val (.ref a), s1] st h = E_ d mX3_crosses 69 [.val (.ref a), s1] (.ref a :: st) h := e_go dX3_crosses_68 rfl rfl
theorem wX3_crosses_69 (ht : oT h a = 5) : E_ d mX3_crosses 69 ls (.ref a :: st) h = E_ d mX3_crosses 72 ls (.int (oI h a 7) :: st) h := e_getI dX3_crosses_69 rfl rfl ht
theorem wX3_crosses_72 : E_ d mX3_crosses 72 ls (.int x :: st) h = if x = 0 then E_ d mX3_crosses 75 ls st h else E_ d mX3_crosses 79 ls st h := e_zne dX3_crosses_72 rfl rfl
theorem wX3_crosses_75 : E_ d mX3_crosses 75 ls st h = E_ d mX3_crosses 76 ls (.int (nI 1) :: st) h := e_iconst dX3_crosses_75 kiconst_1 rfl
theorem wX3_crosses_76 : E_ d mX3_crosses 76 ls st h = E_ d mX3_crosses 80 ls st h := e_gt dX3_crosses_76 rfl
theorem wX3_crosses_79 : E_ d mX3_crosses 79 ls st h = E_ d mX3_crosses 80 ls (.int (nI 0) :: st) h := e_iconst dX3_crosses_79 kiconst_0 rfl
theorem wX3_crosses_80 : E_ d mX3_crosses 80 ls (.int y :: .int x :: st) h = E_ d mX3_crosses 81 ls (.int (x + y) :: st) h := e_go dX3_crosses_80 rfl rfl
theorem wX3_crosses_81 (ht : oT h a = 5) : E_ d mX3_crosses 81 ls (.int x :: .ref a :: st) h = E_ d mX3_crosses 84 ls st (pI h a (va_up (oI h a) 6 x)) := e_putI dX3_crosses_81 rfl rfl ht
theorem wX3_crosses_84 : E_ d mX3_crosses 84 [.val (.ref a), s1] st h = E_ d mX3_crosses 85 [.val (.ref a), s1] (.ref a :: st) h := e_go dX3_crosses_84 rfl rfl
theorem wX3_crosses_85 (ht : oT h a = 5) : E_ d mX3_crosses 85 ls (.ref a :: st) h = E_ d mX3_crosses 88 ls (.int (oI h a 6) :: st) h := e_getI dX3_crosses_85 rfl rfl ht
theorem wX3_crosses_88 : E_ d mX3_crosses 88 [.val (.ref a), s1] st h = E_ d mX3_crosses 89 [.val (.ref a), s1] (.ref a :: st) h := e_go dX3_crosses_88 rfl rfl
theorem wX3_crosses_89 (ht : oT h a = 5) : E_ d mX3_crosses 89 ls (.ref a :: st) h = E_ d mX3_crosses 92 ls (va_rf (oR h a 5) :: st) h := e_getR dX3_crosses_89 rfl rfl ht
theorem wX3_crosses_92 (ht : oT h a = 3) : E_ d mX3_crosses 92 ls (.ref a :: st) h = E_ d mX3_crosses 95 ls (.int (oI h a 1) :: st) h := e_getI dX3_crosses_92 rfl rfl ht
theorem wX3_crosses_95 : E_ d mX3_crosses 95 ls (.int y :: .int x :: st) h = if x = y then E_ d mX3_crosses 98 ls st h else E_ d mX3_crosses 103 ls st h := e_ine dX3_crosses_95 rfl rfl
theorem wX3_crosses_98 : E_ d mX3_crosses 98 [.val (.ref a), s1] st h = E_ d mX3_crosses 99 [.val (.ref a), s1] (.ref a :: st) h := e_go dX3_crosses_98 rfl rfl
theorem wX3_crosses_99 : E_ d mX3_crosses 99 ls st h = E_ d mX3_crosses 100 ls (.int (nI 1) :: st) h := e_iconst dX3_crosses_99 kiconst_1 rfl
theorem wX3_crosses_100 (ht : oT h a = 5) : E_ d mX3_crosses 100 ls (.int x :: .ref a :: st) h = E_ d mX3_crosses 103 ls st (pI h a (va_up (oI h a) 10 x)) := e_putI dX3_crosses_100 rfl rfl ht
theorem wX3_crosses_103 : E_ d mX3_crosses 103 ls [] h = some (none, h) := e_rt dX3_crosses_103 rfl rfl
/-! FootOut$Walk.be -/
theorem wX3_be_0 : E_ d mX3_be 0 [.val (.ref a), s1, s2] st h = E_ d mX3_be 1 [.val (.ref a), s1, s2] (.ref a :: st) h := e_go dX3_be_0 rfl rfl
theorem wX3_be_1 : E_ d mX3_be 1 [s0, .val (.ref a), s2] st h = E_ d mX3_be 2 [s0, .val (.ref a), s2] (.ref a :: st) h := e_go dX3_be_1 rfl rfl
theorem wX3_be_2 (ht : oT h a = 5) : E_ d mX3_be 2 ls (.ref a :: st) h = E_ d mX3_be 5 ls (va_rf (oR h a 5) :: st) h := e_getR dX3_be_2 rfl rfl ht
theorem wX3_be_5 (ht : oT h a = 5) : E_ d mX3_be 5 ls (.ref b :: .ref a :: st) h = E_ d mX3_be 8 ls st (pR h a (va_up (oR h a) 5 (some b))) := e_putR dX3_be_5 rfl rfl ht
theorem wX3_be_8 : E_ d mX3_be 8 [.val (.ref a), s1, s2] st h = E_ d mX3_be 9 [.val (.ref a), s1, s2] (.ref a :: st) h := e_go dX3_be_8 rfl rfl
theorem wX3_be_9 : E_ d mX3_be 9 [s0, .val (.ref a), s2] st h = E_ d mX3_be 10 [s0, .val (.ref a), s2] (.ref a :: st) h := e_go dX3_be_9 rfl rfl
theorem wX3_be_10 (ht : oT h a = 5) : E_ d mX3_be 10 ls (.ref a :: st) h = E_ d mX3_be 13 ls (.int (oI h a 6) :: st) h := e_getI dX3_be_10 rfl rfl ht
theorem wX3_be_13 (ht : oT h a = 5) : E_ d mX3_be 13 ls (.int x :: .ref a :: st) h = E_ d mX3_be 16 ls st (pI h a (va_up (oI h a) 6 x)) := e_putI dX3_be_13 rfl rfl ht
theorem wX3_be_16 : E_ d mX3_be 16 [.val (.ref a), s1, s2] st h = E_ d mX3_be 17 [.val (.ref a), s1, s2] (.ref a :: st) h := e_go dX3_be_16 rfl rfl
theorem wX3_be_17 : E_ d mX3_be 17 [s0, .val (.ref a), s2] st h = E_ d mX3_be 18 [s0, .val (.ref a), s2] (.ref a :: st) h := e_go dX3_be_17 rfl rfl
theorem wX3_be_18 (ht : oT h a = 5) : E_ d mX3_be 18 ls (.ref a :: st) h = E_ d mX3_be 21 ls (.int (oI h a 7) :: st) h := e_getI dX3_be_18 rfl rfl ht
theorem wX3_be_21 (ht : oT h a = 5) : E_ d mX3_be 21 ls (.int x :: .ref a :: st) h = E_ d mX3_be 24 ls st (pI h a (va_up (oI h a) 7 x)) := e_putI dX3_be_21 rfl rfl ht
theorem wX3_be_24 : E_ d mX3_be 24 [.val (.ref a), s1, s2] st h = E_ d mX3_be 25 [.val (.ref a), s1, s2] (.ref a :: st) h := e_go dX3_be_24 rfl rfl
theorem wX3_be_25 : E_ d mX3_be 25 [s0, .val (.ref a), s2] st h = E_ d mX3_be 26 [s0, .val (.ref a), s2] (.ref a :: st) h := e_go dX3_be_25 rfl rfl
theorem wX3_be_26 (ht : oT h a = 5) : E_ d mX3_be 26 ls (.ref a :: st) h = E_ d mX3_be 29 ls (.int (oI h a 8) :: st) h := e_getI dX3_be_26 rfl rfl ht
theorem wX3_be_29 (ht : oT h a = 5) : E_ d mX3_be 29 ls (.int x :: .ref a :: st) h = E_ d mX3_be 32 ls st (pI h a (va_up (oI h a) 8 x)) := e_putI dX3_be_29 rfl rfl ht
theorem wX3_be_32 : E_ d mX3_be 32 [.val (.ref a), s1, s2] st h = E_ d mX3_be 33 [.val (.ref a), s1, s2] (.ref a :: st) h := e_go dX3_be_32 rfl rfl
theorem wX3_be_33 : E_ d mX3_be 33 [s0, .val (.ref a), s2] st h = E_ d mX3_be 34 [s0, .val (.ref a), s2] (.ref a :: st) h := e_go dX3_be_33 rfl rfl
theorem wX3_be_34 (ht : oT h a = 5) : E_ d mX3_be 34 ls (.ref a :: st) h = E_ d mX3_be 37 ls (.int (oI h a 9) :: st) h := e_getI dX3_be_34 rfl rfl ht
theorem wX3_be_37 (ht : oT h a = 5) : E_ d mX3_be 37 ls (.int x :: .ref a :: st) h = E_ d mX3_be 40 ls st (pI h a (va_up (oI h a) 9 x)) := e_putI dX3_be_37 rfl rfl ht
theorem wX3_be_40 : E_ d mX3_be 40 [.val (.ref a), s1, s2] st h = E_ d mX3_be 41 [.val (.ref a), s1, s2] (.ref a :: st) h := e_go dX3_be_40 rfl rfl
theorem wX3_be_41 : E_ d mX3_be 41 [s0, .val (.ref a), s2] st h = E_ d mX3_be 42 [s0, .val (.ref a), s2] (.ref a :: st) h := e_go dX3_be_41 rfl rfl
theorem wX3_be_42 (ht : oT h a = 5) : E_ d mX3_be 42 ls (.ref a :: st) h = E_ d mX3_be 45 ls (.int (oI h a 10) :: st) h := e_getI dX3_be_42 rfl rfl ht
theorem wX3_be_45 (ht : oT h a = 5) : E_ d mX3_be 45 ls (.int x :: .ref a :: st) h = E_ d mX3_be 48 ls st (pI h a (va_up (oI h a) 10 x)) := e_putI dX3_be_45 rfl rfl ht
theorem wX3_be_48 : E_ d mX3_be 48 [.val (.ref a), s1, s2] st h = E_ d mX3_be 49 [.val (.ref a), s1, s2] (.ref a :: st) h := e_go dX3_be_48 rfl rfl
theorem wX3_be_49 : E_ d mX3_be 49 [s0, .val (.ref a), s2] st h = E_ d mX3_be 50 [s0, .val (.ref a), s2] (.ref a :: st) h := e_go dX3_be_49 rfl rfl
theorem wX3_be_50 (ht : oT h a = 5) : E_ d mX3_be 50 ls (.ref a :: st) h = E_ d mX3_be 53 ls (.int (oI h a 11) :: st) h := e_getI dX3_be_50 rfl rfl ht
theorem wX3_be_53 (ht : oT h a = 5) : E_ d mX3_be 53 ls (.int x :: .ref a :: st) h = E_ d mX3_be 56 ls st (pI h a (va_up (oI h a) 11 x)) := e_putI dX3_be_53 rfl rfl ht
theorem wX3_be_56 : E_ d mX3_be 56 [.val (.ref a), s1, s2] st h = E_ d mX3_be 57 [.val (.ref a), s1, s2] (.ref a :: st) h := e_go dX3_be_56 rfl rfl
theorem wX3_be_57 : E_ d mX3_be 57 [s0, .val (.ref a), s2] st h = E_ d mX3_be 58 [s0, .val (.ref a), s2] (.ref a :: st) h := e_go dX3_be_57 rfl rfl
theorem wX3_be_58 (ht : oT h a = 5) : E_ d mX3_be 58 ls (.ref a :: st) h = E_ d mX3_be 61 ls (.int (oI h a 12) :: st) h := e_getI dX3_be_58 rfl rfl ht
theorem wX3_be_61 (ht : oT h a = 5) : E_ d mX3_be 61 ls (.int x :: .ref a :: st) h = E_ d mX3_be 64 ls st (pI h a (va_up (oI h a) 12 x)) := e_putI dX3_be_61 rfl rfl ht
theorem wX3_be_64 : E_ d mX3_be 64 ls st h = E_ d mX3_be 65 ls (.int (nI 0) :: st) h := e_iconst dX3_be_64 kiconst_0 rfl
theorem wX3_be_65 : E_ d mX3_be 65 [s0, s1, s2] (.int x :: st) h = E_ d mX3_be 66 [s0, xk s1, .val (.int x)] st h := e_go dX3_be_65 rfl rfl
theorem wX3_be_66 : E_ d mX3_be 66 [s0, s1, .val (.int x)] st h = E_ d mX3_be 67 [s0, s1, .val (.int x)] (.int x :: st) h := e_go dX3_be_66 rfl rfl
theorem wX3_be_67 : E_ d mX3_be 67 [.val (.ref a), s1, s2] st h = E_ d mX3_be 68 [.val (.ref a), s1, s2] (.ref a :: st) h := e_go dX3_be_67 rfl rfl
theorem wX3_be_68 (ht : oT h a = 5) : E_ (d + 1) mX3_be 68 ls [.ref a, .int x1] h = (C_ d mX3_many [.ref a] h).bind fun r => E_ (d + 1) mX3_be 71 ls (xpu r.1 [.int x1]) r.2 := e_vir dX3_be_68 rfl rfl rfl rfl rfl rfl (Nat.le_of_ble_eq_true rfl) (Nat.le_of_ble_eq_true rfl) ht
theorem wX3_be_71 : E_ d mX3_be 71 ls (.int y :: .int x :: st) h = if x < y then E_ d mX3_be 74 ls st h else E_ d mX3_be 128 ls st h := e_ige dX3_be_71 rfl rfl
theorem wX3_be_74 : E_ d mX3_be 74 [.val (.ref a), s1, s2] st h = E_ d mX3_be 75 [.val (.ref a), s1, s2] (.ref a :: st) h := e_go dX3_be_74 rfl rfl
theorem wX3_be_75 (ht : oT h a = 5) : E_ d mX3_be 75 ls (.ref a :: st) h = E_ d mX3_be 78 ls (va_rf (oR h a 0) :: st) h := e_getR0 dX3_be_75 rfl rfl ht
theorem wX3_be_78 : E_ d mX3_be 78 [s0, s1, .val (.int x)] st h = E_ d mX3_be 79 [s0, s1, .val (.int x)] (.int x :: st) h := e_go dX3_be_78 rfl rfl
theorem wX3_be_79 : E_ d mX3_be 79 [s0, .val (.ref a), s2] st h = E_ d mX3_be 80 [s0, .val (.ref a), s2] (.ref a :: st) h := e_go dX3_be_79 rfl rfl
theorem wX3_be_80 (ht : oT h a = 5) : E_ d mX3_be 80 ls (.ref a :: st) h = E_ d mX3_be 83 ls (va_rf (oR h a 0) :: st) h := e_getR0 dX3_be_80 rfl rfl ht
theorem wX3_be_83 : E_ d mX3_be 83 [s0, s1, .val (.int x)] st h = E_ d mX3_be 84 [s0, s1, .val (.int x)] (.int x :: st) h := e_go dX3_be_83 rfl rfl
theorem wX3_be_84 (ht : oT h a = 40) (hi : xix x (oN h a) = true) : E_ d mX3_be 84 ls (.int x :: .ref a :: st) h = E_ d mX3_be 85 ls (.int (oI h a x.toNatClampNeg) :: st) h := e_iald dX3_be_84 rfl ht hi
theorem wX3_be_85 (ht : oT h a = 40) (hi : xix x (oN h a) = true) : E_ d mX3_be 85 ls (.int y :: .int x :: .ref a :: st) h = E_ d mX3_be 86 ls st (pI h a (va_up (oI h a) x.toNatClampNeg y)) := e_iast dX3_be_85 rfl ht hi
theorem wX3_be_86 : E_ d mX3_be 86 [.val (.ref a), s1, s2] st h = E_ d mX3_be 87 [.val (.ref a), s1, s2] (.ref a :: st) h := e_go dX3_be_86 rfl rfl
theorem wX3_be_87 (ht : oT h a = 5) : E_ d mX3_be 87 ls (.ref a :: st) h = E_ d mX3_be 90 ls (va_rf (oR h a 1) :: st) h := e_getR0 dX3_be_87 rfl rfl ht
theorem wX3_be_90 : E_ d mX3_be 90 [s0, s1, .val (.int x)] st h = E_ d mX3_be 91 [s0, s1, .val (.int x)] (.int x :: st) h := e_go dX3_be_90 rfl rfl
theorem wX3_be_91 : E_ d mX3_be 91 [s0, .val (.ref a), s2] st h = E_ d mX3_be 92 [s0, .val (.ref a), s2] (.ref a :: st) h := e_go dX3_be_91 rfl rfl
theorem wX3_be_92 (ht : oT h a = 5) : E_ d mX3_be 92 ls (.ref a :: st) h = E_ d mX3_be 95 ls (va_rf (oR h a 1) :: st) h := e_getR0 dX3_be_92 rfl rfl ht
theorem wX3_be_95 : E_ d mX3_be 95 [s0, s1, .val (.int x)] st h = E_ d mX3_be 96 [s0, s1, .val (.int x)] (.int x :: st) h := e_go dX3_be_95 rfl rfl
theorem wX3_be_96 (ht : oT h a = 40) (hi : xix x (oN h a) = true) : E_ d mX3_be 96 ls (.int x :: .ref a :: st) h = E_ d mX3_be 97 ls (.int (oI h a x.toNatClampNeg) :: st) h := e_iald dX3_be_96 rfl ht hi
theorem wX3_be_97 (ht : oT h a = 40) (hi : xix x (oN h a) = true) : E_ d mX3_be 97 ls (.int y :: .int x :: .ref a :: st) h = E_ d mX3_be 98 ls st (pI h a (va_up (oI h a) x.toNatClampNeg y)) := e_iast dX3_be_97 rfl ht hi
theorem wX3_be_98 : E_ d mX3_be 98 [.val (.ref a), s1, s2] st h = E_ d mX3_be 99 [.val (.ref a), s1, s2] (.ref a :: st) h := e_go dX3_be_98 rfl rfl
theorem wX3_be_99 (ht : oT h a = 5) : E_ d mX3_be 99 ls (.ref a :: st) h = E_ d mX3_be 102 ls (va_rf (oR h a 2) :: st) h := e_getR0 dX3_be_99 rfl rfl ht
theorem wX3_be_102 : E_ d mX3_be 102 [s0, s1, .val (.int x)] st h = E_ d mX3_be 103 [s0, s1, .val (.int x)] (.int x :: st) h := e_go dX3_be_102 rfl rfl
theorem wX3_be_103 : E_ d mX3_be 103 [s0, .val (.ref a), s2] st h = E_ d mX3_be 104 [s0, .val (.ref a), s2] (.ref a :: st) h := e_go dX3_be_103 rfl rfl
theorem wX3_be_104 (ht : oT h a = 5) : E_ d mX3_be 104 ls (.ref a :: st) h = E_ d mX3_be 107 ls (va_rf (oR h a 2) :: st) h := e_getR0 dX3_be_104 rfl rfl ht
theorem wX3_be_107 : E_ d mX3_be 107 [s0, s1, .val (.int x)] st h = E_ d mX3_be 108 [s0, s1, .val (.int x)] (.int x :: st) h := e_go dX3_be_107 rfl rfl
theorem wX3_be_108 (ht : oT h a = 40) (hi : xix x (oN h a) = true) : E_ d mX3_be 108 ls (.int x :: .ref a :: st) h = E_ d mX3_be 109 ls (.int (oI h a x.toNatClampNeg) :: st) h := e_iald dX3_be_108 rfl ht hi
theorem wX3_be_109 (ht : oT h a = 40) (hi : xix x (oN h a) = true) : E_ d mX3_be 109 ls (.int y :: .int x :: .ref a :: st) h = E_ d mX3_be 110 ls st (pI h a (va_up (oI h a) x.toNatClampNeg y)) := e_iast dX3_be_109 rfl ht hi
theorem wX3_be_110 : E_ d mX3_be 110 [.val (.ref a), s1, s2] st h = E_ d mX3_be 111 [.val (.ref a), s1, s2] (.ref a :: st) h := e_go dX3_be_110 rfl rfl
theorem wX3_be_111 (ht : oT h a = 5) : E_ d mX3_be 111 ls (.ref a :: st) h = E_ d mX3_be 114 ls (va_rf (oR h a 3) :: st) h := e_getR0 dX3_be_111 rfl rfl ht
theorem wX3_be_114 : E_ d mX3_be 114 [s0, s1, .val (.int x)] st h = E_ d mX3_be 115 [s0, s1, .val (.int x)] (.int x :: st) h := e_go dX3_be_114 rfl rfl
theorem wX3_be_115 : E_ d mX3_be 115 [s0, .val (.ref a), s2] st h = E_ d mX3_be 116 [s0, .val (.ref a), s2] (.ref a :: st) h := e_go dX3_be_115 rfl rfl
theorem wX3_be_116 (ht : oT h a = 5) : E_ d mX3_be 116 ls (.ref a :: st) h = E_ d mX3_be 119 ls (va_rf (oR h a 3) :: st) h := e_getR0 dX3_be_116 rfl rfl ht
theorem wX3_be_119 : E_ d mX3_be 119 [s0, s1, .val (.int x)] st h = E_ d mX3_be 120 [s0, s1, .val (.int x)] (.int x :: st) h := e_go dX3_be_119 rfl rfl
theorem wX3_be_120 (ht : oT h a = 41 ∨ oT h a = 42) (hi : xix x (oN h a) = true) : E_ d mX3_be 120 ls (.int x :: .ref a :: st) h = E_ d mX3_be 121 ls (.int (oI h a x.toNatClampNeg) :: st) h := e_bald dX3_be_120 rfl ht hi
theorem wX3_be_121 (ht : oT h a = 41) (hi : xix x (oN h a) = true) : E_ d mX3_be 121 ls (.int y :: .int x :: .ref a :: st) h = E_ d mX3_be 122 ls st (pI h a (va_up (oI h a) x.toNatClampNeg (vp_nar .byte y))) := e_bast dX3_be_121 rfl ht hi
theorem wX3_be_121z (ht : oT h a = 42) (hi : xix x (oN h a) = true) : E_ d mX3_be 121 ls (.int y :: .int x :: .ref a :: st) h = E_ d mX3_be 122 ls st (pI h a (va_up (oI h a) x.toNatClampNeg (vp_nar .boolean y))) := e_zast dX3_be_121 rfl ht hi
theorem wX3_be_122 : E_ d mX3_be 122 [s0, s1, .val (.int x)] st h = E_ d mX3_be 125 [s0, xk s1, .val (.int (x + nI 1))] st h := by rw [← kiinc_1]; exact e_go dX3_be_122 rfl rfl
theorem wX3_be_125 : E_ d mX3_be 125 ls st h = E_ d mX3_be 66 ls st h := e_gt dX3_be_125 rfl
theorem wX3_be_128 : E_ d mX3_be 128 ls [] h = some (none, h) := e_rt dX3_be_128 rfl rfl
/-! FootOut$Numbers.<init> -/
theorem wX4_init_0 : E_ d mX4_init 0 [.val (.ref a)] st h = E_ d mX4_init 1 [.val (.ref a)] (.ref a :: st) h := e_go dX4_init_0 rfl rfl
theorem wX4_init_0q : E_ d mX4_init 0 [.val (va_rf q)] st h = E_ d mX4_init 1 [.val (va_rf q)] (va_rf q :: st) h := by cases q <;> exact e_go dX4_init_0 rfl rfl
theorem wX4_init_0n : E_ d mX4_init 0 [.val .null] st h = E_ d mX4_init 1 [.val .null] (.null :: st) h := e_go dX4_init_0 rfl rfl
theorem wX4_init_1 : E_ d mX4_init 1 ls [.ref a] h = E_ d mX4_init 4 ls [] h := e_go dX4_init_1 rfl rfl
theorem wX4_init_4 : E_ d mX4_init 4 ls [] h = some (none, h) := e_rt dX4_init_4 rfl rfl
/-! FootOut$Numbers.many -/
theorem wX4_many_0 : E_ d mX4_many 0 [.val (.ref a)] st h = E_ d mX4_many 1 [.val (.ref a)] (.ref a :: st) h := e_go dX4_many_0 rfl rfl
theorem wX4_many_0q : E_ d mX4_many 0 [.val (va_rf q)] st h = E_ d mX4_many 1 [.val (va_rf q)] (va_rf q :: st) h := by cases q <;> exact e_go dX4_many_0 rfl rfl
theorem wX4_many_0n : E_ d mX4_many 0 [.val .null] st h = E_ d mX4_many 1 [.val .null] (.null :: st) h := e_go dX4_many_0 rfl rfl
theorem wX4_many_1 (ht : oT h a = 6) : E_ d mX4_many 1 ls (.ref a :: st) h = E_ d mX4_many 4 ls (va_rf (oR h a 0) :: st) h := e_getR dX4_many_1 rfl rfl ht
theorem wX4_many_4 (h0 : 40 ≤ oT h a) (h1 : oT h a ≤ 44) : E_ d mX4_many 4 ls (.ref a :: st) h = E_ d mX4_many 7 ls (.int (if oT h a = 41 then 1 else 0) :: st) h := e_inst dX4_many_4 rfl rfl (by decide) h0 h1
theorem wX4_many_4n : E_ d mX4_many 4 ls (.null :: st) h = E_ d mX4_many 7 ls (.int 0 :: st) h := e_go dX4_many_4 rfl rfl
theorem wX4_many_7 : E_ d mX4_many 7 ls (.int x :: st) h = if x = 0 then E_ d mX4_many 19 ls st h else E_ d mX4_many 10 ls st h := e_zeq dX4_many_7 rfl rfl
theorem wX4_many_10 : E_ d mX4_many 10 [.val (.ref a)] st h = E_ d mX4_many 11 [.val (.ref a)] (.ref a :: st) h := e_go dX4_many_10 rfl rfl
theorem wX4_many_10q : E_ d mX4_many 10 [.val (va_rf q)] st h = E_ d mX4_many 11 [.val (va_rf q)] (va_rf q :: st) h := by cases q <;> exact e_go dX4_many_10 rfl rfl
theorem wX4_many_10n : E_ d mX4_many 10 [.val .null] st h = E_ d mX4_many 11 [.val .null] (.null :: st) h := e_go dX4_many_10 rfl rfl
theorem wX4_many_11 (ht : oT h a = 6) : E_ d mX4_many 11 ls (.ref a :: st) h = E_ d mX4_many 14 ls (va_rf (oR h a 0) :: st) h := e_getR dX4_many_11 rfl rfl ht
theorem wX4_many_14 (ht : oT h a = 41) : E_ d mX4_many 14 ls (.ref a :: st) h = E_ d mX4_many 17 ls (.ref a :: st) h := e_cast dX4_many_14 rfl rfl ht
theorem wX4_many_14n : E_ d mX4_many 14 ls (.null :: st) h = E_ d mX4_many 17 ls (.null :: st) h := e_go dX4_many_14 rfl rfl
theorem wX4_many_17 (ht : 39 ≤ oT h a ∧ oT h a ≤ 48) : E_ d mX4_many 17 ls (.ref a :: st) h = E_ d mX4_many 18 ls (.int (nI (oN h a)) :: st) h := e_len dX4_many_17 rfl ht
theorem wX4_many_18 : E_ d mX4_many 18 ls [.int x] h = some (some (.int x), h) := e_rt dX4_many_18 rfl rfl
theorem wX4_many_19 : E_ d mX4_many 19 [.val (.ref a)] st h = E_ d mX4_many 20 [.val (.ref a)] (.ref a :: st) h := e_go dX4_many_19 rfl rfl
theorem wX4_many_19q : E_ d mX4_many 19 [.val (va_rf q)] st h = E_ d mX4_many 20 [.val (va_rf q)] (va_rf q :: st) h := by cases q <;> exact e_go dX4_many_19 rfl rfl
theorem wX4_many_19n : E_ d mX4_many 19 [.val .null] st h = E_ d mX4_many 20 [.val .null] (.null :: st) h := e_go dX4_many_19 rfl rfl
theorem wX4_many_20 (ht : oT h a = 6) : E_ d mX4_many 20 ls (.ref a :: st) h = E_ d mX4_many 23 ls (va_rf (oR h a 0) :: st) h := e_getR dX4_many_20 rfl rfl ht
theorem wX4_many_23 (h0 : 40 ≤ oT h a) (h1 : oT h a ≤ 44) : E_ d mX4_many 23 ls (.ref a :: st) h = E_ d mX4_many 26 ls (.int (if oT h a = 43 then 1 else 0) :: st) h := e_inst dX4_many_23 rfl rfl (by decide) h0 h1
theorem wX4_many_23n : E_ d mX4_many 23 ls (.null :: st) h = E_ d mX4_many 26 ls (.int 0 :: st) h := e_go dX4_many_23 rfl rfl
theorem wX4_many_26 : E_ d mX4_many 26 ls (.int x :: st) h = if x = 0 then E_ d mX4_many 38 ls st h else E_ d mX4_many 29 ls st h := e_zeq dX4_many_26 rfl rfl
theorem wX4_many_29 : E_ d mX4_many 29 [.val (.ref a)] st h = E_ d mX4_many 30 [.val (.ref a)] (.ref a :: st) h := e_go dX4_many_29 rfl rfl
theorem wX4_many_29q : E_ d mX4_many 29 [.val (va_rf q)] st h = E_ d mX4_many 30 [.val (va_rf q)] (va_rf q :: st) h := by cases q <;> exact e_go dX4_many_29 rfl rfl
theorem wX4_many_29n : E_ d mX4_many 29 [.val .null] st h = E_ d mX4_many 30 [.val .null] (.null :: st) h := e_go dX4_many_29 rfl rfl
theorem wX4_many_30 (ht : oT h a = 6) : E_ d mX4_many 30 ls (.ref a :: st) h = E_ d mX4_many 33 ls (va_rf (oR h a 0) :: st) h := e_getR dX4_many_30 rfl rfl ht
theorem wX4_many_33 (ht : oT h a = 43) : E_ d mX4_many 33 ls (.ref a :: st) h = E_ d mX4_many 36 ls (.ref a :: st) h := e_cast dX4_many_33 rfl rfl ht
theorem wX4_many_33n : E_ d mX4_many 33 ls (.null :: st) h = E_ d mX4_many 36 ls (.null :: st) h := e_go dX4_many_33 rfl rfl
theorem wX4_many_36 (ht : 39 ≤ oT h a ∧ oT h a ≤ 48) : E_ d mX4_many 36 ls (.ref a :: st) h = E_ d mX4_many 37 ls (.int (nI (oN h a)) :: st) h := e_len dX4_many_36 rfl ht
theorem wX4_many_37 : E_ d mX4_many 37 ls [.int x] h = some (some (.int x), h) := e_rt dX4_many_37 rfl rfl
theorem wX4_many_38 : E_ d mX4_many 38 [.val (.ref a)] st h = E_ d mX4_many 39 [.val (.ref a)] (.ref a :: st) h := e_go dX4_many_38 rfl rfl
theorem wX4_many_38q : E_ d mX4_many 38 [.val (va_rf q)] st h = E_ d mX4_many 39 [.val (va_rf q)] (va_rf q :: st) h := by cases q <;> exact e_go dX4_many_38 rfl rfl
theorem wX4_many_38n : E_ d mX4_many 38 [.val .null] st h = E_ d mX4_many 39 [.val .null] (.null :: st) h := e_go dX4_many_38 rfl rfl
theorem wX4_many_39 (ht : oT h a = 6) : E_ d mX4_many 39 ls (.ref a :: st) h = E_ d mX4_many 42 ls (va_rf (oR h a 0) :: st) h := e_getR dX4_many_39 rfl rfl ht
theorem wX4_many_42 (h0 : 40 ≤ oT h a) (h1 : oT h a ≤ 44) : E_ d mX4_many 42 ls (.ref a :: st) h = E_ d mX4_many 45 ls (.int (if oT h a = 40 then 1 else 0) :: st) h := e_inst dX4_many_42 rfl rfl (by decide) h0 h1
theorem wX4_many_42n : E_ d mX4_many 42 ls (.null :: st) h = E_ d mX4_many 45 ls (.int 0 :: st) h := e_go dX4_many_42 rfl rfl
theorem wX4_many_45 : E_ d mX4_many 45 ls (.int x :: st) h = if x = 0 then E_ d mX4_many 59 ls st h else E_ d mX4_many 48 ls st h := e_zeq dX4_many_45 rfl rfl
theorem wX4_many_48 : E_ d mX4_many 48 [.val (.ref a)] st h = E_ d mX4_many 49 [.val (.ref a)] (.ref a :: st) h := e_go dX4_many_48 rfl rfl
theorem wX4_many_48q : E_ d mX4_many 48 [.val (va_rf q)] st h = E_ d mX4_many 49 [.val (va_rf q)] (va_rf q :: st) h := by cases q <;> exact e_go dX4_many_48 rfl rfl
theorem wX4_many_48n : E_ d mX4_many 48 [.val .null] st h = E_ d mX4_many 49 [.val .null] (.null :: st) h := e_go dX4_many_48 rfl rfl
theorem wX4_many_49 (ht : oT h a = 6) : E_ d mX4_many 49 ls (.ref a :: st) h = E_ d mX4_many 52 ls (va_rf (oR h a 0) :: st) h := e_getR dX4_many_49 rfl rfl ht
theorem wX4_many_52 (ht : oT h a = 40) : E_ d mX4_many 52 ls (.ref a :: st) h = E_ d mX4_many 55 ls (.ref a :: st) h := e_cast dX4_many_52 rfl rfl ht
theorem wX4_many_52n : E_ d mX4_many 52 ls (.null :: st) h = E_ d mX4_many 55 ls (.null :: st) h := e_go dX4_many_52 rfl rfl
theorem wX4_many_55 (ht : 39 ≤ oT h a ∧ oT h a ≤ 48) : E_ d mX4_many 55 ls (.ref a :: st) h = E_ d mX4_many 56 ls (.int (nI (oN h a)) :: st) h := e_len dX4_many_55 rfl ht
theorem wX4_many_56 : E_ d mX4_many 56 ls st h = E_ d mX4_many 67 ls st h := e_gt dX4_many_56 rfl
theorem wX4_many_59 : E_ d mX4_many 59 [.val (.ref a)] st h = E_ d mX4_many 60 [.val (.ref a)] (.ref a :: st) h := e_go dX4_many_59 rfl rfl
theorem wX4_many_59q : E_ d mX4_many 59 [.val (va_rf q)] st h = E_ d mX4_many 60 [.val (va_rf q)] (va_rf q :: st) h := by cases q <;> exact e_go dX4_many_59 rfl rfl
theorem wX4_many_59n : E_ d mX4_many 59 [.val .null] st h = E_ d mX4_many 60 [.val .null] (.null :: st) h := e_go dX4_many_59 rfl rfl
theorem wX4_many_60 (ht : oT h a = 6) : E_ d mX4_many 60 ls (.ref a :: st) h = E_ d mX4_many 63 ls (va_rf (oR h a 0) :: st) h := e_getR dX4_many_60 rfl rfl ht
theorem wX4_many_63 (ht : oT h a = 44) : E_ d mX4_many 63 ls (.ref a :: st) h = E_ d mX4_many 66 ls (.ref a :: st) h := e_cast dX4_many_63 rfl rfl ht
theorem wX4_many_63n : E_ d mX4_many 63 ls (.null :: st) h = E_ d mX4_many 66 ls (.null :: st) h := e_go dX4_many_63 rfl rfl
theorem wX4_many_66 (ht : 39 ≤ oT h a ∧ oT h a ≤ 48) : E_ d mX4_many 66 ls (.ref a :: st) h = E_ d mX4_many 67 ls (.int (nI (oN h a)) :: st) h := e_len dX4_many_66 rfl ht
theorem wX4_many_67 : E_ d mX4_many 67 ls [.int x] h = some (some (.int x), h) := e_rt dX4_many_67 rfl rfl
/-! FootOut$Numbers.number -/
theorem wX4_number_0 : E_ d mX4_number 0 [.val (.ref a), s1] st h = E_ d mX4_number 1 [.val (.ref a), s1] (.ref a :: st) h := e_go dX4_number_0 rfl rfl
theorem wX4_number_0q : E_ d mX4_number 0 [.val (va_rf q), s1] st h = E_ d mX4_number 1 [.val (va_rf q), s1] (va_rf q :: st) h := by cases q <;> exact e_go dX4_number_0 rfl rfl
theorem wX4_number_0n : E_ d mX4_number 0 [.val .null, s1] st h = E_ d mX4_number 1 [.val .null, s1] (.null :: st) h := e_go dX4_number_0 rfl rfl
theorem wX4_number_1 (ht : oT h a = 6) : E_ d mX4_number 1 ls (.ref a :: st) h = E_ d mX4_number 4 ls (va_rf (oR h a 0) :: st) h := e_getR dX4_number_1 rfl rfl ht
theorem wX4_number_4 (h0 : 40 ≤ oT h a) (h1 : oT h a ≤ 44) : E_ d mX4_number 4 ls (.ref a :: st) h = E_ d mX4_number 7 ls (.int (if oT h a = 41 then 1 else 0) :: st) h := e_inst dX4_number_4 rfl rfl (by decide) h0 h1
theorem wX4_number_4n : E_ d mX4_number 4 ls (.null :: st) h = E_ d mX4_number 7 ls (.int 0 :: st) h := e_go dX4_number_4 rfl rfl
theorem wX4_number_7 : E_ d mX4_number 7 ls (.int x :: st) h = if x = 0 then E_ d mX4_number 21 ls st h else E_ d mX4_number 10 ls st h := e_zeq dX4_number_7 rfl rfl
theorem wX4_number_10 : E_ d mX4_number 10 [.val (.ref a), s1] st h = E_ d mX4_number 11 [.val (.ref a), s1] (.ref a :: st) h := e_go dX4_number_10 rfl rfl
theorem wX4_number_10q : E_ d mX4_number 10 [.val (va_rf q), s1] st h = E_ d mX4_number 11 [.val (va_rf q), s1] (va_rf q :: st) h := by cases q <;> exact e_go dX4_number_10 rfl rfl
theorem wX4_number_10n : E_ d mX4_number 10 [.val .null, s1] st h = E_ d mX4_number 11 [.val .null, s1] (.null :: st) h := e_go dX4_number_10 rfl rfl
theorem wX4_number_11 (ht : oT h a = 6) : E_ d mX4_number 11 ls (.ref a :: st) h = E_ d mX4_number 14 ls (va_rf (oR h a 0) :: st) h := e_getR dX4_number_11 rfl rfl ht
theorem wX4_number_14 (ht : oT h a = 41) : E_ d mX4_number 14 ls (.ref a :: st) h = E_ d mX4_number 17 ls (.ref a :: st) h := e_cast dX4_number_14 rfl rfl ht
theorem wX4_number_14n : E_ d mX4_number 14 ls (.null :: st) h = E_ d mX4_number 17 ls (.null :: st) h := e_go dX4_number_14 rfl rfl
theorem wX4_number_17 : E_ d mX4_number 17 [s0, .val (.int x)] st h = E_ d mX4_number 18 [s0, .val (.int x)] (.int x :: st) h := e_go dX4_number_17 rfl rfl
theorem wX4_number_18 (ht : oT h a = 41 ∨ oT h a = 42) (hi : xix x (oN h a) = true) : E_ d mX4_number 18 ls (.int x :: .ref a :: st) h = E_ d mX4_number 19 ls (.int (oI h a x.toNatClampNeg) :: st) h := e_bald dX4_number_18 rfl ht hi
theorem wX4_number_19 : E_ d mX4_number 19 ls (.int x :: st) h = E_ d mX4_number 20 ls (.long x.toInt64 :: st) h := e_go dX4_number_19 rfl rfl
theorem wX4_number_20 : E_ d mX4_number 20 ls [.long u] h = some (some (.long u), h) := e_rt dX4_number_20 rfl rfl
theorem wX4_number_21 : E_ d mX4_number 21 [.val (.ref a), s1] st h = E_ d mX4_number 22 [.val (.ref a), s1] (.ref a :: st) h := e_go dX4_number_21 rfl rfl
theorem wX4_number_21q : E_ d mX4_number 21 [.val (va_rf q), s1] st h = E_ d mX4_number 22 [.val (va_rf q), s1] (va_rf q :: st) h := by cases q <;> exact e_go dX4_number_21 rfl rfl
theorem wX4_number_21n : E_ d mX4_number 21 [.val .null, s1] st h = E_ d mX4_number 22 [.val .null, s1] (.null :: st) h := e_go dX4_number_21 rfl rfl
theorem wX4_number_22 (ht : oT h a = 6) : E_ d mX4_number 22 ls (.ref a :: st) h = E_ d mX4_number 25 ls (va_rf (oR h a 0) :: st) h := e_getR dX4_number_22 rfl rfl ht
theorem wX4_number_25 (h0 : 40 ≤ oT h a) (h1 : oT h a ≤ 44) : E_ d mX4_number 25 ls (.ref a :: st) h = E_ d mX4_number 28 ls (.int (if oT h a = 43 then 1 else 0) :: st) h := e_inst dX4_number_25 rfl rfl (by decide) h0 h1
theorem wX4_number_25n : E_ d mX4_number 25 ls (.null :: st) h = E_ d mX4_number 28 ls (.int 0 :: st) h := e_go dX4_number_25 rfl rfl
theorem wX4_number_28 : E_ d mX4_number 28 ls (.int x :: st) h = if x = 0 then E_ d mX4_number 42 ls st h else E_ d mX4_number 31 ls st h := e_zeq dX4_number_28 rfl rfl
theorem wX4_number_31 : E_ d mX4_number 31 [.val (.ref a), s1] st h = E_ d mX4_number 32 [.val (.ref a), s1] (.ref a :: st) h := e_go dX4_number_31 rfl rfl
theorem wX4_number_31q : E_ d mX4_number 31 [.val (va_rf q), s1] st h = E_ d mX4_number 32 [.val (va_rf q), s1] (va_rf q :: st) h := by cases q <;> exact e_go dX4_number_31 rfl rfl
theorem wX4_number_31n : E_ d mX4_number 31 [.val .null, s1] st h = E_ d mX4_number 32 [.val .null, s1] (.null :: st) h := e_go dX4_number_31 rfl rfl
theorem wX4_number_32 (ht : oT h a = 6) : E_ d mX4_number 32 ls (.ref a :: st) h = E_ d mX4_number 35 ls (va_rf (oR h a 0) :: st) h := e_getR dX4_number_32 rfl rfl ht
theorem wX4_number_35 (ht : oT h a = 43) : E_ d mX4_number 35 ls (.ref a :: st) h = E_ d mX4_number 38 ls (.ref a :: st) h := e_cast dX4_number_35 rfl rfl ht
theorem wX4_number_35n : E_ d mX4_number 35 ls (.null :: st) h = E_ d mX4_number 38 ls (.null :: st) h := e_go dX4_number_35 rfl rfl
theorem wX4_number_38 : E_ d mX4_number 38 [s0, .val (.int x)] st h = E_ d mX4_number 39 [s0, .val (.int x)] (.int x :: st) h := e_go dX4_number_38 rfl rfl
theorem wX4_number_39 (ht : oT h a = 43) (hi : xix x (oN h a) = true) : E_ d mX4_number 39 ls (.int x :: .ref a :: st) h = E_ d mX4_number 40 ls (.int (oI h a x.toNatClampNeg) :: st) h := e_sald dX4_number_39 rfl ht hi
theorem wX4_number_40 : E_ d mX4_number 40 ls (.int x :: st) h = E_ d mX4_number 41 ls (.long x.toInt64 :: st) h := e_go dX4_number_40 rfl rfl
theorem wX4_number_41 : E_ d mX4_number 41 ls [.long u] h = some (some (.long u), h) := e_rt dX4_number_41 rfl rfl
theorem wX4_number_42 : E_ d mX4_number 42 [.val (.ref a), s1] st h = E_ d mX4_number 43 [.val (.ref a), s1] (.ref a :: st) h := e_go dX4_number_42 rfl rfl
theorem wX4_number_42q : E_ d mX4_number 42 [.val (va_rf q), s1] st h = E_ d mX4_number 43 [.val (va_rf q), s1] (va_rf q :: st) h := by cases q <;> exact e_go dX4_number_42 rfl rfl
theorem wX4_number_42n : E_ d mX4_number 42 [.val .null, s1] st h = E_ d mX4_number 43 [.val .null, s1] (.null :: st) h := e_go dX4_number_42 rfl rfl
theorem wX4_number_43 (ht : oT h a = 6) : E_ d mX4_number 43 ls (.ref a :: st) h = E_ d mX4_number 46 ls (va_rf (oR h a 0) :: st) h := e_getR dX4_number_43 rfl rfl ht
theorem wX4_number_46 (h0 : 40 ≤ oT h a) (h1 : oT h a ≤ 44) : E_ d mX4_number 46 ls (.ref a :: st) h = E_ d mX4_number 49 ls (.int (if oT h a = 40 then 1 else 0) :: st) h := e_inst dX4_number_46 rfl rfl (by decide) h0 h1
theorem wX4_number_46n : E_ d mX4_number 46 ls (.null :: st) h = E_ d mX4_number 49 ls (.int 0 :: st) h := e_go dX4_number_46 rfl rfl
theorem wX4_number_49 : E_ d mX4_number 49 ls (.int x :: st) h = if x = 0 then E_ d mX4_number 65 ls st h else E_ d mX4_number 52 ls st h := e_zeq dX4_number_49 rfl rfl
theorem wX4_number_52 : E_ d mX4_number 52 [.val (.ref a), s1] st h = E_ d mX4_number 53 [.val (.ref a), s1] (.ref a :: st) h := e_go dX4_number_52 rfl rfl
theorem wX4_number_52q : E_ d mX4_number 52 [.val (va_rf q), s1] st h = E_ d mX4_number 53 [.val (va_rf q), s1] (va_rf q :: st) h := by cases q <;> exact e_go dX4_number_52 rfl rfl
theorem wX4_number_52n : E_ d mX4_number 52 [.val .null, s1] st h = E_ d mX4_number 53 [.val .null, s1] (.null :: st) h := e_go dX4_number_52 rfl rfl
theorem wX4_number_53 (ht : oT h a = 6) : E_ d mX4_number 53 ls (.ref a :: st) h = E_ d mX4_number 56 ls (va_rf (oR h a 0) :: st) h := e_getR dX4_number_53 rfl rfl ht
theorem wX4_number_56 (ht : oT h a = 40) : E_ d mX4_number 56 ls (.ref a :: st) h = E_ d mX4_number 59 ls (.ref a :: st) h := e_cast dX4_number_56 rfl rfl ht
theorem wX4_number_56n : E_ d mX4_number 56 ls (.null :: st) h = E_ d mX4_number 59 ls (.null :: st) h := e_go dX4_number_56 rfl rfl
theorem wX4_number_59 : E_ d mX4_number 59 [s0, .val (.int x)] st h = E_ d mX4_number 60 [s0, .val (.int x)] (.int x :: st) h := e_go dX4_number_59 rfl rfl
theorem wX4_number_60 (ht : oT h a = 40) (hi : xix x (oN h a) = true) : E_ d mX4_number 60 ls (.int x :: .ref a :: st) h = E_ d mX4_number 61 ls (.int (oI h a x.toNatClampNeg) :: st) h := e_iald dX4_number_60 rfl ht hi
theorem wX4_number_61 : E_ d mX4_number 61 ls (.int x :: st) h = E_ d mX4_number 62 ls (.long x.toInt64 :: st) h := e_go dX4_number_61 rfl rfl
theorem wX4_number_62 : E_ d mX4_number 62 ls st h = E_ d mX4_number 74 ls st h := e_gt dX4_number_62 rfl
theorem wX4_number_65 : E_ d mX4_number 65 [.val (.ref a), s1] st h = E_ d mX4_number 66 [.val (.ref a), s1] (.ref a :: st) h := e_go dX4_number_65 rfl rfl
theorem wX4_number_65q : E_ d mX4_number 65 [.val (va_rf q), s1] st h = E_ d mX4_number 66 [.val (va_rf q), s1] (va_rf q :: st) h := by cases q <;> exact e_go dX4_number_65 rfl rfl
theorem wX4_number_65n : E_ d mX4_number 65 [.val .null, s1] st h = E_ d mX4_number 66 [.val .null, s1] (.null :: st) h := e_go dX4_number_65 rfl rfl
theorem wX4_number_66 (ht : oT h a = 6) : E_ d mX4_number 66 ls (.ref a :: st) h = E_ d mX4_number 69 ls (va_rf (oR h a 0) :: st) h := e_getR dX4_number_66 rfl rfl ht
theorem wX4_number_69 (ht : oT h a = 44) : E_ d mX4_number 69 ls (.ref a :: st) h = E_ d mX4_number 72 ls (.ref a :: st) h := e_cast dX4_number_69 rfl rfl ht
theorem wX4_number_69n : E_ d mX4_number 69 ls (.null :: st) h = E_ d mX4_number 72 ls (.null :: st) h := e_go dX4_number_69 rfl rfl
theorem wX4_number_72 : E_ d mX4_number 72 [s0, .val (.int x)] st h = E_ d mX4_number 73 [s0, .val (.int x)] (.int x :: st) h := e_go dX4_number_72 rfl rfl
theorem wX4_number_73 (ht : oT h a = 44) (hi : xix x (oN h a) = true) : E_ d mX4_number 73 ls (.int x :: .ref a :: st) h = E_ d mX4_number 74 ls (.long (oL h a x.toNatClampNeg) :: st) h := e_lald dX4_number_73 rfl ht hi
theorem wX4_number_74 : E_ d mX4_number 74 ls [.long u] h = some (some (.long u), h) := e_rt dX4_number_74 rfl rfl
/-! FootOut$Reader.<init> -/
theorem wX6_init_0 : E_ d mX6_init 0 [.val (.ref a), s1, s2] st h = E_ d mX6_init 1 [.val (.ref a), s1, s2] (.ref a :: st) h := e_go dX6_init_0 rfl rfl
theorem wX6_init_0q : E_ d mX6_init 0 [.val (va_rf q), s1, s2] st h = E_ d mX6_init 1 [.val (va_rf q), s1, s2] (va_rf q :: st) h := by cases q <;> exact e_go dX6_init_0 rfl rfl
theorem wX6_init_0n : E_ d mX6_init 0 [.val .null, s1, s2] st h = E_ d mX6_init 1 [.val .null, s1, s2] (.null :: st) h := e_go dX6_init_0 rfl rfl
theorem wX6_init_1 : E_ d mX6_init 1 [s0, .val (.ref a), s2] st h = E_ d mX6_init 2 [s0, .val (.ref a), s2] (.ref a :: st) h := e_go dX6_init_1 rfl rfl
theorem wX6_init_1q : E_ d mX6_init 1 [s0, .val (va_rf q), s2] st h = E_ d mX6_init 2 [s0, .val (va_rf q), s2] (va_rf q :: st) h := by cases q <;> exact e_go dX6_init_1 rfl rfl
theorem wX6_init_1n : E_ d mX6_init 1 [s0, .val .null, s2] st h = E_ d mX6_init 2 [s0, .val .null, s2] (.null :: st) h := e_go dX6_init_1 rfl rfl
theorem wX6_init_2 (ht : oT h a = 8) : E_ d mX6_init 2 ls (.ref b :: .ref a :: st) h = E_ d mX6_init 5 ls st (pR h a (va_up (oR h a) 10 (some b))) := e_putR0 dX6_init_2 rfl rfl rfl ht
theorem wX6_init_2q (ht : oT h a = 8) : E_ d mX6_init 2 ls (va_rf q :: .ref a :: st) h = E_ d mX6_init 5 ls st (pR h a (va_up (oR h a) 10 q)) := e_putR0q dX6_init_2 rfl rfl rfl ht
theorem wX6_init_5 : E_ d mX6_init 5 [.val (.ref a), s1, s2] st h = E_ d mX6_init 6 [.val (.ref a), s1, s2] (.ref a :: st) h := e_go dX6_init_5 rfl rfl
theorem wX6_init_5q : E_ d mX6_init 5 [.val (va_rf q), s1, s2] st h = E_ d mX6_init 6 [.val (va_rf q), s1, s2] (va_rf q :: st) h := by cases q <;> exact e_go dX6_init_5 rfl rfl
theorem wX6_init_5n : E_ d mX6_init 5 [.val .null, s1, s2] st h = E_ d mX6_init 6 [.val .null, s1, s2] (.null :: st) h := e_go dX6_init_5 rfl rfl
theorem wX6_init_6 : E_ d mX6_init 6 ls [.ref a] h = E_ d mX6_init 9 ls [] h := e_go dX6_init_6 rfl rfl
theorem wX6_init_9 : E_ d mX6_init 9 [.val (.ref a), s1, s2] st h = E_ d mX6_init 10 [.val (.ref a), s1, s2] (.ref a :: st) h := e_go dX6_init_9 rfl rfl
theorem wX6_init_9q : E_ d mX6_init 9 [.val (va_rf q), s1, s2] st h = E_ d mX6_init 10 [.val (va_rf q), s1, s2] (va_rf q :: st) h := by cases q <;> exact e_go dX6_init_9 rfl rfl
theorem wX6_init_9n : E_ d mX6_init 9 [.val .null, s1, s2] st h = E_ d mX6_init 10 [.val .null, s1, s2] (.null :: st) h := e_go dX6_init_9 rfl rfl
theorem wX6_init_10 : E_ d mX6_init 10 ls st h = E_ d mX6_init 13 ls (.ref (oX h) :: st) (pO h 3 8) := e_go dX6_init_10 rfl rfl
theorem wX6_init_13 : E_ d mX6_init 13 ls (.ref a :: st) h = E_ d mX6_init 14 ls (.ref a :: .ref a :: st) h := e_go dX6_init_13 rfl rfl
theorem wX6_init_14 : E_ (d + 1) mX6_init 14 ls [.ref a, .ref r1, .ref r2] h = (C_ d mX2_init [.ref a] h).bind fun r => E_ (d + 1) mX6_init 17 ls (xpu r.1 [.ref r1, .ref r2]) r.2 := e_call dX6_init_14 rfl rfl
theorem wX6_init_17 (ht : oT h a = 8) : E_ d mX6_init 17 ls (.ref b :: .ref a :: st) h = E_ d mX6_init 20 ls st (pR h a (va_up (oR h a) 1 (some b))) := e_putR0 dX6_init_17 rfl rfl rfl ht
theorem wX6_init_17q (ht : oT h a = 8) : E_ d mX6_init 17 ls (va_rf q :: .ref a :: st) h = E_ d mX6_init 20 ls st (pR h a (va_up (oR h a) 1 q)) := e_putR0q dX6_init_17 rfl rfl rfl ht
theorem wX6_init_20 : E_ d mX6_init 20 [.val (.ref a), s1, s2] st h = E_ d mX6_init 21 [.val (.ref a), s1, s2] (.ref a :: st) h := e_go dX6_init_20 rfl rfl
theorem wX6_init_20q : E_ d mX6_init 20 [.val (va_rf q), s1, s2] st h = E_ d mX6_init 21 [.val (va_rf q), s1, s2] (va_rf q :: st) h := by cases q <;> exact e_go dX6_init_20 rfl rfl
theorem wX6_init_20n : E_ d mX6_init 20 [.val .null, s1, s2] st h = E_ d mX6_init 21 [.val .null, s1, s2] (.null :: st) h := e_go dX6_init_20 rfl rfl
theorem wX6_init_21 : E_ d mX6_init 21 ls st h = E_ d mX6_init 24 ls (.ref (oX h) :: st) (pO h 4 3) := e_go dX6_init_21 rfl rfl
theorem wX6_init_24 : E_ d mX6_init 24 ls (.ref a :: st) h = E_ d mX6_init 25 ls (.ref a :: .ref a :: st) h := e_go dX6_init_24 rfl rfl
theorem wX6_init_25 : E_ d mX6_init 25 ls st h = E_ d mX6_init 26 ls (.int (nI 2) :: st) h := e_iconst dX6_init_25 kiconst_2 rfl
theorem wX6_init_26 : E_ (d + 1) mX6_init 26 ls [.int x1, .ref a, .ref r1, .ref r2] h = (C_ d mJ2_init [.ref a, .int x1] h).bind fun r => E_ (d + 1) mX6_init 29 ls (xpu r.1 [.ref r1, .ref r2]) r.2 := e_call dX6_init_26 rfl rfl
theorem wX6_init_29 (ht : oT h a = 8) : E_ d mX6_init 29 ls (.ref b :: .ref a :: st) h = E_ d mX6_init 32 ls st (pR h a (va_up (oR h a) 2 (some b))) := e_putR0 dX6_init_29 rfl rfl rfl ht
theorem wX6_init_29q (ht : oT h a = 8) : E_ d mX6_init 29 ls (va_rf q :: .ref a :: st) h = E_ d mX6_init 32 ls st (pR h a (va_up (oR h a) 2 q)) := e_putR0q dX6_init_29 rfl rfl rfl ht
theorem wX6_init_32 : E_ d mX6_init 32 [.val (.ref a), s1, s2] st h = E_ d mX6_init 33 [.val (.ref a), s1, s2] (.ref a :: st) h := e_go dX6_init_32 rfl rfl
theorem wX6_init_32q : E_ d mX6_init 32 [.val (va_rf q), s1, s2] st h = E_ d mX6_init 33 [.val (va_rf q), s1, s2] (va_rf q :: st) h := by cases q <;> exact e_go dX6_init_32 rfl rfl
theorem wX6_init_32n : E_ d mX6_init 32 [.val .null, s1, s2] st h = E_ d mX6_init 33 [.val .null, s1, s2] (.null :: st) h := e_go dX6_init_32 rfl rfl
theorem wX6_init_33 : E_ d mX6_init 33 ls st h = E_ d mX6_init 34 ls (.int ((-1)) :: st) h := e_iconst dX6_init_33 kiconst_m1 rfl
theorem wX6_init_34 (ht : oT h a = 8) : E_ d mX6_init 34 ls (.int x :: .ref a :: st) h = E_ d mX6_init 37 ls st (pI h a (va_up (oI h a) 9 x)) := e_putI dX6_init_34 rfl rfl ht
theorem wX6_init_37 : E_ d mX6_init 37 [.val (.ref a), s1, s2] st h = E_ d mX6_init 38 [.val (.ref a), s1, s2] (.ref a :: st) h := e_go dX6_init_37 rfl rfl
theorem wX6_init_37q : E_ d mX6_init 37 [.val (va_rf q), s1, s2] st h = E_ d mX6_init 38 [.val (va_rf q), s1, s2] (va_rf q :: st) h := by cases q <;> exact e_go dX6_init_37 rfl rfl
theorem wX6_init_37n : E_ d mX6_init 37 [.val .null, s1, s2] st h = E_ d mX6_init 38 [.val .null, s1, s2] (.null :: st) h := e_go dX6_init_37 rfl rfl
theorem wX6_init_38 : E_ d mX6_init 38 [s0, s1, .val (.int x)] st h = E_ d mX6_init 39 [s0, s1, .val (.int x)] (.int x :: st) h := e_go dX6_init_38 rfl rfl
theorem wX6_init_39 (ht : oT h a = 8) : E_ d mX6_init 39 ls (.int x :: .ref a :: st) h = E_ d mX6_init 42 ls st (pI h a (va_up (oI h a) 0 x)) := e_putI0 dX6_init_39 rfl rfl rfl ht
theorem wX6_init_42 : E_ d mX6_init 42 ls [] h = some (none, h) := e_rt dX6_init_42 rfl rfl
/-! FootOut$Reader.scene -/
theorem wX6_scene_0 : E_ d mX6_scene 0 [.val (.ref a)] st h = E_ d mX6_scene 1 [.val (.ref a)] (.ref a :: st) h := e_go dX6_scene_0 rfl rfl
theorem wX6_scene_0q : E_ d mX6_scene 0 [.val (va_rf q)] st h = E_ d mX6_scene 1 [.val (va_rf q)] (va_rf q :: st) h := by cases q <;> exact e_go dX6_scene_0 rfl rfl
theorem wX6_scene_0n : E_ d mX6_scene 0 [.val .null] st h = E_ d mX6_scene 1 [.val .null] (.null :: st) h := e_go dX6_scene_0 rfl rfl
theorem wX6_scene_1 (ht : oT h a = 8) : E_ (d + 1) mX6_scene 1 ls [.ref a] h = (C_ d mX6_next [.ref a] h).bind fun r => E_ (d + 1) mX6_scene 4 ls (xpu r.1 []) r.2 := e_vir dX6_scene_1 rfl rfl rfl rfl rfl rfl (Nat.le_of_ble_eq_true rfl) (Nat.le_of_ble_eq_true rfl) ht
theorem wX6_scene_4 : E_ d mX6_scene 4 [.val (.ref a)] st h = E_ d mX6_scene 5 [.val (.ref a)] (.ref a :: st) h := e_go dX6_scene_4 rfl rfl
theorem wX6_scene_4q : E_ d mX6_scene 4 [.val (va_rf q)] st h = E_ d mX6_scene 5 [.val (va_rf q)] (va_rf q :: st) h := by cases q <;> exact e_go dX6_scene_4 rfl rfl
theorem wX6_scene_4n : E_ d mX6_scene 4 [.val .null] st h = E_ d mX6_scene 5 [.val .null] (.null :: st) h := e_go dX6_scene_4 rfl rfl
theorem wX6_scene_5 (ht : oT h a = 8) : E_ d mX6_scene 5 ls (.ref a :: st) h = E_ d mX6_scene 8 ls (.int (oI h a 8) :: st) h := e_getI dX6_scene_5 rfl rfl ht
theorem wX6_scene_8 : E_ d mX6_scene 8 ls (.int x :: st) h = if x = 0 then E_ d mX6_scene 11 ls st h else E_ d mX6_scene 42 ls st h := e_zne dX6_scene_8 rfl rfl
theorem wX6_scene_11 : E_ d mX6_scene 11 [.val (.ref a)] st h = E_ d mX6_scene 12 [.val (.ref a)] (.ref a :: st) h := e_go dX6_scene_11 rfl rfl
theorem wX6_scene_11q : E_ d mX6_scene 11 [.val (va_rf q)] st h = E_ d mX6_scene 12 [.val (va_rf q)] (va_rf q :: st) h := by cases q <;> exact e_go dX6_scene_11 rfl rfl
theorem wX6_scene_11n : E_ d mX6_scene 11 [.val .null] st h = E_ d mX6_scene 12 [.val .null] (.null :: st) h := e_go dX6_scene_11 rfl rfl
theorem wX6_scene_12 (ht : oT h a = 8) : E_ d mX6_scene 12 ls (.ref a :: st) h = E_ d mX6_scene 15 ls (.int (oI h a 5) :: st) h := e_getI dX6_scene_12 rfl rfl ht
theorem wX6_scene_15 : E_ d mX6_scene 15 ls (.int x :: st) h = if x = 0 then E_ d mX6_scene 42 ls st h else E_ d mX6_scene 18 ls st h := e_zeq dX6_scene_15 rfl rfl
theorem wX6_scene_18 : E_ d mX6_scene 18 [.val (.ref a)] st h = E_ d mX6_scene 19 [.val (.ref a)] (.ref a :: st) h := e_go dX6_scene_18 rfl rfl
theorem wX6_scene_18q : E_ d mX6_scene 18 [.val (va_rf q)] st h = E_ d mX6_scene 19 [.val (va_rf q)] (va_rf q :: st) h := by cases q <;> exact e_go dX6_scene_18 rfl rfl
theorem wX6_scene_18n : E_ d mX6_scene 18 [.val .null] st h = E_ d mX6_scene 19 [.val .null] (.null :: st) h := e_go dX6_scene_18 rfl rfl
theorem wX6_scene_19 (ht : oT h a = 8) : E_ (d + 1) mX6_scene 19 ls [.ref a] h = (C_ d mX6_line [.ref a] h).bind fun r => E_ (d + 1) mX6_scene 22 ls (xpu r.1 []) r.2 := e_vir dX6_scene_19 rfl rfl rfl rfl rfl rfl (Nat.le_of_ble_eq_true rfl) (Nat.le_of_ble_eq_true rfl) ht
theorem wX6_scene_22 : E_ d mX6_scene 22 [.val (.ref a)] st h = E_ d mX6_scene 23 [.val (.ref a)] (.ref a :: st) h := e_go dX6_scene_22 rfl rfl
theorem wX6_scene_22q : E_ d mX6_scene 22 [.val (va_rf q)] st h = E_ d mX6_scene 23 [.val (va_rf q)] (va_rf q :: st) h := by cases q <;> exact e_go dX6_scene_22 rfl rfl
theorem wX6_scene_22n : E_ d mX6_scene 22 [.val .null] st h = E_ d mX6_scene 23 [.val .null] (.null :: st) h := e_go dX6_scene_22 rfl rfl
theorem wX6_scene_23 (ht : oT h a = 8) : E_ (d + 1) mX6_scene 23 ls [.ref a] h = (C_ d mX6_over [.ref a] h).bind fun r => E_ (d + 1) mX6_scene 26 ls (xpu r.1 []) r.2 := e_vir dX6_scene_23 rfl rfl rfl rfl rfl rfl (Nat.le_of_ble_eq_true rfl) (Nat.le_of_ble_eq_true rfl) ht
theorem wX6_scene_26 : E_ d mX6_scene 26 [.val (.ref a)] st h = E_ d mX6_scene 27 [.val (.ref a)] (.ref a :: st) h := e_go dX6_scene_26 rfl rfl
theorem wX6_scene_26q : E_ d mX6_scene 26 [.val (va_rf q)] st h = E_ d mX6_scene 27 [.val (va_rf q)] (va_rf q :: st) h := by cases q <;> exact e_go dX6_scene_26 rfl rfl
theorem wX6_scene_26n : E_ d mX6_scene 26 [.val .null] st h = E_ d mX6_scene 27 [.val .null] (.null :: st) h := e_go dX6_scene_26 rfl rfl
theorem wX6_scene_27 (ht : oT h a = 8) : E_ d mX6_scene 27 ls (.ref a :: st) h = E_ d mX6_scene 30 ls (va_rf (oR h a 1) :: st) h := e_getR0 dX6_scene_27 rfl rfl ht
theorem wX6_scene_30 : E_ d mX6_scene 30 ls (.ref a :: st) h = E_ d mX6_scene 31 ls (.ref a :: .ref a :: st) h := e_go dX6_scene_30 rfl rfl
theorem wX6_scene_31 (ht : oT h a = 3) : E_ d mX6_scene 31 ls (.ref a :: st) h = E_ d mX6_scene 34 ls (.int (oI h a 7) :: st) h := e_getI dX6_scene_31 rfl rfl ht
theorem wX6_scene_34 : E_ d mX6_scene 34 ls st h = E_ d mX6_scene 35 ls (.int (nI 1) :: st) h := e_iconst dX6_scene_34 kiconst_1 rfl
theorem wX6_scene_35 : E_ d mX6_scene 35 ls (.int y :: .int x :: st) h = E_ d mX6_scene 36 ls (.int (x + y) :: st) h := e_go dX6_scene_35 rfl rfl
theorem wX6_scene_36 (ht : oT h a = 3) : E_ d mX6_scene 36 ls (.int x :: .ref a :: st) h = E_ d mX6_scene 39 ls st (pI h a (va_up (oI h a) 7 x)) := e_putI dX6_scene_36 rfl rfl ht
theorem wX6_scene_39 : E_ d mX6_scene 39 ls st h = E_ d mX6_scene 4 ls st h := e_gt dX6_scene_39 rfl
theorem wX6_scene_42 : E_ d mX6_scene 42 ls [] h = some (none, h) := e_rt dX6_scene_42 rfl rfl
/-! FootOut$Reader.next -/
theorem wX6_next_0 : E_ d mX6_next 0 [.val (.ref a), s1] st h = E_ d mX6_next 1 [.val (.ref a), s1] (.ref a :: st) h := e_go dX6_next_0 rfl rfl
theorem wX6_next_0q : E_ d mX6_next 0 [.val (va_rf q), s1] st h = E_ d mX6_next 1 [.val (va_rf q), s1] (va_rf q :: st) h := by cases q <;> exact e_go dX6_next_0 rfl rfl
theorem wX6_next_0n : E_ d mX6_next 0 [.val .null, s1] st h = E_ d mX6_next 1 [.val .null, s1] (.null :: st) h := e_go dX6_next_0 rfl rfl
theorem wX6_next_1 (ht : oT h a = 8) : E_ d mX6_next 1 ls (.ref a :: st) h = E_ d mX6_next 4 ls (.int (oI h a 3) :: st) h := e_getI dX6_next_1 rfl rfl ht
theorem wX6_next_4 : E_ d mX6_next 4 [.val (.ref a), s1] st h = E_ d mX6_next 5 [.val (.ref a), s1] (.ref a :: st) h := e_go dX6_next_4 rfl rfl
theorem wX6_next_4q : E_ d mX6_next 4 [.val (va_rf q), s1] st h = E_ d mX6_next 5 [.val (va_rf q), s1] (va_rf q :: st) h := by cases q <;> exact e_go dX6_next_4 rfl rfl
theorem wX6_next_4n : E_ d mX6_next 4 [.val .null, s1] st h = E_ d mX6_next 5 [.val .null, s1] (.null :: st) h := e_go dX6_next_4 rfl rfl
theorem wX6_next_5 (ht : oT h a = 8) : E_ d mX6_next 5 ls (.ref a :: st) h = E_ d mX6_next 8 ls (.int (oI h a 0) :: st) h := e_getI0 dX6_next_5 rfl rfl ht
theorem wX6_next_8 : E_ d mX6_next 8 ls (.int y :: .int x :: st) h = if x < y then E_ d mX6_next 11 ls st h else E_ d mX6_next 50 ls st h := e_ige dX6_next_8 rfl rfl
theorem wX6_next_11 : E_ d mX6_next 11 [.val (.ref a), s1] st h = E_ d mX6_next 12 [.val (.ref a), s1] (.ref a :: st) h := e_go dX6_next_11 rfl rfl
theorem wX6_next_11q : E_ d mX6_next 11 [.val (va_rf q), s1] st h = E_ d mX6_next 12 [.val (va_rf q), s1] (va_rf q :: st) h := by cases q <;> exact e_go dX6_next_11 rfl rfl
theorem wX6_next_11n : E_ d mX6_next 11 [.val .null, s1] st h = E_ d mX6_next 12 [.val .null, s1] (.null :: st) h := e_go dX6_next_11 rfl rfl
theorem wX6_next_12 : E_ d mX6_next 12 [.val (.ref a), s1] st h = E_ d mX6_next 13 [.val (.ref a), s1] (.ref a :: st) h := e_go dX6_next_12 rfl rfl
theorem wX6_next_12q : E_ d mX6_next 12 [.val (va_rf q), s1] st h = E_ d mX6_next 13 [.val (va_rf q), s1] (va_rf q :: st) h := by cases q <;> exact e_go dX6_next_12 rfl rfl
theorem wX6_next_12n : E_ d mX6_next 12 [.val .null, s1] st h = E_ d mX6_next 13 [.val .null, s1] (.null :: st) h := e_go dX6_next_12 rfl rfl
theorem wX6_next_13 (ht : oT h a = 8) : E_ d mX6_next 13 ls (.ref a :: st) h = E_ d mX6_next 16 ls (.int (oI h a 3) :: st) h := e_getI dX6_next_13 rfl rfl ht
theorem wX6_next_16 (ht : oT h a = 8) : E_ (d + 1) mX6_next 16 ls [.int x1, .ref a] h = (C_ d mX6_see [.ref a, .int x1] h).bind fun r => E_ (d + 1) mX6_next 19 ls (xpu r.1 []) r.2 := e_vir dX6_next_16 rfl rfl rfl rfl rfl rfl (Nat.le_of_ble_eq_true rfl) (Nat.le_of_ble_eq_true rfl) ht
theorem wX6_next_19 : E_ d mX6_next 19 ls st h = E_ d mX6_next 21 ls (.int (nI 32) :: st) h := e_bipush dX6_next_19 kbipush_32 rfl
theorem wX6_next_21 : E_ d mX6_next 21 ls (.int y :: .int x :: st) h = if x = y then E_ d mX6_next 37 ls st h else E_ d mX6_next 24 ls st h := e_ieq dX6_next_21 rfl rfl
theorem wX6_next_24 : E_ d mX6_next 24 [.val (.ref a), s1] st h = E_ d mX6_next 25 [.val (.ref a), s1] (.ref a :: st) h := e_go dX6_next_24 rfl rfl
theorem wX6_next_24q : E_ d mX6_next 24 [.val (va_rf q), s1] st h = E_ d mX6_next 25 [.val (va_rf q), s1] (va_rf q :: st) h := by cases q <;> exact e_go dX6_next_24 rfl rfl
theorem wX6_next_24n : E_ d mX6_next 24 [.val .null, s1] st h = E_ d mX6_next 25 [.val .null, s1] (.null :: st) h := e_go dX6_next_24 rfl rfl
theorem wX6_next_25 : E_ d mX6_next 25 [.val (.ref a), s1] st h = E_ d mX6_next 26 [.val (.ref a), s1] (.ref a :: st) h := e_go dX6_next_25 rfl rfl
theorem wX6_next_25q : E_ d mX6_next 25 [.val (va_rf q), s1] st h = E_ d mX6_next 26 [.val (va_rf q), s1] (va_rf q :: st) h := by cases q <;> exact e_go dX6_next_25 rfl rfl
theorem wX6_next_25n : E_ d mX6_next 25 [.val .null, s1] st h = E_ d mX6_next 26 [.val .null, s1] (.null :: st) h := e_go dX6_next_25 rfl rfl
theorem wX6_next_26 (ht : oT h a = 8) : E_ d mX6_next 26 ls (.ref a :: st) h = E_ d mX6_next 29 ls (.int (oI h a 3) :: st) h := e_getI dX6_next_26 rfl rfl ht
theorem wX6_next_29 (ht : oT h a = 8) : E_ (d + 1) mX6_next 29 ls [.int x1, .ref a] h = (C_ d mX6_see [.ref a, .int x1] h).bind fun r => E_ (d + 1) mX6_next 32 ls (xpu r.1 []) r.2 := e_vir dX6_next_29 rfl rfl rfl rfl rfl rfl (Nat.le_of_ble_eq_true rfl) (Nat.le_of_ble_eq_true rfl) ht
theorem wX6_next_32 : E_ d mX6_next 32 ls st h = E_ d mX6_next 34 ls (.int (nI 10) :: st) h := e_bipush dX6_next_32 kbipush_10 rfl
theorem wX6_next_34 : E_ d mX6_next 34 ls (.int y :: .int x :: st) h = if x = y then E_ d mX6_next 37 ls st h else E_ d mX6_next 50 ls st h := e_ine dX6_next_34 rfl rfl
theorem wX6_next_37 : E_ d mX6_next 37 [.val (.ref a), s1] st h = E_ d mX6_next 38 [.val (.ref a), s1] (.ref a :: st) h := e_go dX6_next_37 rfl rfl
theorem wX6_next_37q : E_ d mX6_next 37 [.val (va_rf q), s1] st h = E_ d mX6_next 38 [.val (va_rf q), s1] (va_rf q :: st) h := by cases q <;> exact e_go dX6_next_37 rfl rfl
theorem wX6_next_37n : E_ d mX6_next 37 [.val .null, s1] st h = E_ d mX6_next 38 [.val .null, s1] (.null :: st) h := e_go dX6_next_37 rfl rfl
theorem wX6_next_38 : E_ d mX6_next 38 ls (.ref a :: st) h = E_ d mX6_next 39 ls (.ref a :: .ref a :: st) h := e_go dX6_next_38 rfl rfl
theorem wX6_next_39 (ht : oT h a = 8) : E_ d mX6_next 39 ls (.ref a :: st) h = E_ d mX6_next 42 ls (.int (oI h a 3) :: st) h := e_getI dX6_next_39 rfl rfl ht
theorem wX6_next_42 : E_ d mX6_next 42 ls st h = E_ d mX6_next 43 ls (.int (nI 1) :: st) h := e_iconst dX6_next_42 kiconst_1 rfl
theorem wX6_next_43 : E_ d mX6_next 43 ls (.int y :: .int x :: st) h = E_ d mX6_next 44 ls (.int (x + y) :: st) h := e_go dX6_next_43 rfl rfl
theorem wX6_next_44 (ht : oT h a = 8) : E_ d mX6_next 44 ls (.int x :: .ref a :: st) h = E_ d mX6_next 47 ls st (pI h a (va_up (oI h a) 3 x)) := e_putI dX6_next_44 rfl rfl ht
theorem wX6_next_47 : E_ d mX6_next 47 ls st h = E_ d mX6_next 0 ls st h := e_gt dX6_next_47 rfl
theorem wX6_next_50 : E_ d mX6_next 50 [.val (.ref a), s1] st h = E_ d mX6_next 51 [.val (.ref a), s1] (.ref a :: st) h := e_go dX6_next_50 rfl rfl
theorem wX6_next_50q : E_ d mX6_next 50 [.val (va_rf q), s1] st h = E_ d mX6_next 51 [.val (va_rf q), s1] (va_rf q :: st) h := by cases q <;> exact e_go dX6_next_50 rfl rfl
theorem wX6_next_50n : E_ d mX6_next 50 [.val .null, s1] st h = E_ d mX6_next 51 [.val .null, s1] (.null :: st) h := e_go dX6_next_50 rfl rfl
theorem wX6_next_51 : E_ d mX6_next 51 [.val (.ref a), s1] st h = E_ d mX6_next 52 [.val (.ref a), s1] (.ref a :: st) h := e_go dX6_next_51 rfl rfl
theorem wX6_next_51q : E_ d mX6_next 51 [.val (va_rf q), s1] st h = E_ d mX6_next 52 [.val (va_rf q), s1] (va_rf q :: st) h := by cases q <;> exact e_go dX6_next_51 rfl rfl
theorem wX6_next_51n : E_ d mX6_next 51 [.val .null, s1] st h = E_ d mX6_next 52 [.val .null, s1] (.null :: st) h := e_go dX6_next_51 rfl rfl
theorem wX6_next_52 (ht : oT h a = 8) : E_ d mX6_next 52 ls (.ref a :: st) h = E_ d mX6_next 55 ls (.int (oI h a 3) :: st) h := e_getI dX6_next_52 rfl rfl ht
theorem wX6_next_55 (ht : oT h a = 8) : E_ d mX6_next 55 ls (.int x :: .ref a :: st) h = E_ d mX6_next 58 ls st (pI h a (va_up (oI h a) 4 x)) := e_putI dX6_next_55 rfl rfl ht
theorem wX6_next_58 : E_ d mX6_next 58 [.val (.ref a), s1] st h = E_ d mX6_next 59 [.val (.ref a), s1] (.ref a :: st) h := e_go dX6_next_58 rfl rfl
theorem wX6_next_58q : E_ d mX6_next 58 [.val (va_rf q), s1] st h = E_ d mX6_next 59 [.val (va_rf q), s1] (va_rf q :: st) h := by cases q <;> exact e_go dX6_next_58 rfl rfl
theorem wX6_next_58n : E_ d mX6_next 58 [.val .null, s1] st h = E_ d mX6_next 59 [.val .null, s1] (.null :: st) h := e_go dX6_next_58 rfl rfl
theorem wX6_next_59 (ht : oT h a = 8) : E_ d mX6_next 59 ls (.ref a :: st) h = E_ d mX6_next 62 ls (.int (oI h a 3) :: st) h := e_getI dX6_next_59 rfl rfl ht
theorem wX6_next_62 : E_ d mX6_next 62 [.val (.ref a), s1] st h = E_ d mX6_next 63 [.val (.ref a), s1] (.ref a :: st) h := e_go dX6_next_62 rfl rfl
theorem wX6_next_62q : E_ d mX6_next 62 [.val (va_rf q), s1] st h = E_ d mX6_next 63 [.val (va_rf q), s1] (va_rf q :: st) h := by cases q <;> exact e_go dX6_next_62 rfl rfl
theorem wX6_next_62n : E_ d mX6_next 62 [.val .null, s1] st h = E_ d mX6_next 63 [.val .null, s1] (.null :: st) h := e_go dX6_next_62 rfl rfl
theorem wX6_next_63 (ht : oT h a = 8) : E_ d mX6_next 63 ls (.ref a :: st) h = E_ d mX6_next 66 ls (.int (oI h a 0) :: st) h := e_getI0 dX6_next_63 rfl rfl ht
theorem wX6_next_66 : E_ d mX6_next 66 ls (.int y :: .int x :: st) h = if x < y then E_ d mX6_next 77 ls st h else E_ d mX6_next 69 ls st h := e_ilt dX6_next_66 rfl rfl
theorem wX6_next_69 : E_ d mX6_next 69 [.val (.ref a), s1] st h = E_ d mX6_next 70 [.val (.ref a), s1] (.ref a :: st) h := e_go dX6_next_69 rfl rfl
theorem wX6_next_69q : E_ d mX6_next 69 [.val (va_rf q), s1] st h = E_ d mX6_next 70 [.val (va_rf q), s1] (va_rf q :: st) h := by cases q <;> exact e_go dX6_next_69 rfl rfl
theorem wX6_next_69n : E_ d mX6_next 69 [.val .null, s1] st h = E_ d mX6_next 70 [.val .null, s1] (.null :: st) h := e_go dX6_next_69 rfl rfl
theorem wX6_next_70 : E_ d mX6_next 70 ls st h = E_ d mX6_next 71 ls (.int (nI 0) :: st) h := e_iconst dX6_next_70 kiconst_0 rfl
theorem wX6_next_71 (ht : oT h a = 8) : E_ d mX6_next 71 ls (.int x :: .ref a :: st) h = E_ d mX6_next 74 ls st (pI h a (va_up (oI h a) 5 x)) := e_putI dX6_next_71 rfl rfl ht
theorem wX6_next_74 : E_ d mX6_next 74 ls st h = E_ d mX6_next 267 ls st h := e_gt dX6_next_74 rfl
theorem wX6_next_77 : E_ d mX6_next 77 [.val (.ref a), s1] st h = E_ d mX6_next 78 [.val (.ref a), s1] (.ref a :: st) h := e_go dX6_next_77 rfl rfl
theorem wX6_next_77q : E_ d mX6_next 77 [.val (va_rf q), s1] st h = E_ d mX6_next 78 [.val (va_rf q), s1] (va_rf q :: st) h := by cases q <;> exact e_go dX6_next_77 rfl rfl
theorem wX6_next_77n : E_ d mX6_next 77 [.val .null, s1] st h = E_ d mX6_next 78 [.val .null, s1] (.null :: st) h := e_go dX6_next_77 rfl rfl
theorem wX6_next_78 : E_ d mX6_next 78 [.val (.ref a), s1] st h = E_ d mX6_next 79 [.val (.ref a), s1] (.ref a :: st) h := e_go dX6_next_78 rfl rfl
theorem wX6_next_78q : E_ d mX6_next 78 [.val (va_rf q), s1] st h = E_ d mX6_next 79 [.val (va_rf q), s1] (va_rf q :: st) h := by cases q <;> exact e_go dX6_next_78 rfl rfl
theorem wX6_next_78n : E_ d mX6_next 78 [.val .null, s1] st h = E_ d mX6_next 79 [.val .null, s1] (.null :: st) h := e_go dX6_next_78 rfl rfl
theorem wX6_next_79 (ht : oT h a = 8) : E_ d mX6_next 79 ls (.ref a :: st) h = E_ d mX6_next 82 ls (.int (oI h a 3) :: st) h := e_getI dX6_next_79 rfl rfl ht
theorem wX6_next_82 (ht : oT h a = 8) : E_ (d + 1) mX6_next 82 ls [.int x1, .ref a] h = (C_ d mX6_isSmall [.ref a, .int x1] h).bind fun r => E_ (d + 1) mX6_next 85 ls (xpu r.1 []) r.2 := e_vir dX6_next_82 rfl rfl rfl rfl rfl rfl (Nat.le_of_ble_eq_true rfl) (Nat.le_of_ble_eq_true rfl) ht
theorem wX6_next_85 : E_ d mX6_next 85 ls (.int x :: st) h = if x = 0 then E_ d mX6_next 120 ls st h else E_ d mX6_next 88 ls st h := e_zeq dX6_next_85 rfl rfl
theorem wX6_next_88 : E_ d mX6_next 88 [.val (.ref a), s1] st h = E_ d mX6_next 89 [.val (.ref a), s1] (.ref a :: st) h := e_go dX6_next_88 rfl rfl
theorem wX6_next_88q : E_ d mX6_next 88 [.val (va_rf q), s1] st h = E_ d mX6_next 89 [.val (va_rf q), s1] (va_rf q :: st) h := by cases q <;> exact e_go dX6_next_88 rfl rfl
theorem wX6_next_88n : E_ d mX6_next 88 [.val .null, s1] st h = E_ d mX6_next 89 [.val .null, s1] (.null :: st) h := e_go dX6_next_88 rfl rfl
theorem wX6_next_89 : E_ d mX6_next 89 [.val (.ref a), s1] st h = E_ d mX6_next 90 [.val (.ref a), s1] (.ref a :: st) h := e_go dX6_next_89 rfl rfl
theorem wX6_next_89q : E_ d mX6_next 89 [.val (va_rf q), s1] st h = E_ d mX6_next 90 [.val (va_rf q), s1] (va_rf q :: st) h := by cases q <;> exact e_go dX6_next_89 rfl rfl
theorem wX6_next_89n : E_ d mX6_next 89 [.val .null, s1] st h = E_ d mX6_next 90 [.val .null, s1] (.null :: st) h := e_go dX6_next_89 rfl rfl
theorem wX6_next_90 (ht : oT h a = 8) : E_ d mX6_next 90 ls (.ref a :: st) h = E_ d mX6_next 93 ls (.int (oI h a 3) :: st) h := e_getI dX6_next_90 rfl rfl ht
theorem wX6_next_93 (ht : oT h a = 8) : E_ (d + 1) mX6_next 93 ls [.int x1, .ref a] h = (C_ d mX6_isSmall [.ref a, .int x1] h).bind fun r => E_ (d + 1) mX6_next 96 ls (xpu r.1 []) r.2 := e_vir dX6_next_93 rfl rfl rfl rfl rfl rfl (Nat.le_of_ble_eq_true rfl) (Nat.le_of_ble_eq_true rfl) ht
theorem wX6_next_96 : E_ d mX6_next 96 ls (.int x :: st) h = if x = 0 then E_ d mX6_next 112 ls st h else E_ d mX6_next 99 ls st h := e_zeq dX6_next_96 rfl rfl
theorem wX6_next_99 : E_ d mX6_next 99 [.val (.ref a), s1] st h = E_ d mX6_next 100 [.val (.ref a), s1] (.ref a :: st) h := e_go dX6_next_99 rfl rfl
theorem wX6_next_99q : E_ d mX6_next 99 [.val (va_rf q), s1] st h = E_ d mX6_next 100 [.val (va_rf q), s1] (va_rf q :: st) h := by cases q <;> exact e_go dX6_next_99 rfl rfl
theorem wX6_next_99n : E_ d mX6_next 99 [.val .null, s1] st h = E_ d mX6_next 100 [.val .null, s1] (.null :: st) h := e_go dX6_next_99 rfl rfl
theorem wX6_next_100 : E_ d mX6_next 100 ls (.ref a :: st) h = E_ d mX6_next 101 ls (.ref a :: .ref a :: st) h := e_go dX6_next_100 rfl rfl
theorem wX6_next_101 (ht : oT h a = 8) : E_ d mX6_next 101 ls (.ref a :: st) h = E_ d mX6_next 104 ls (.int (oI h a 3) :: st) h := e_getI dX6_next_101 rfl rfl ht
theorem wX6_next_104 : E_ d mX6_next 104 ls st h = E_ d mX6_next 105 ls (.int (nI 1) :: st) h := e_iconst dX6_next_104 kiconst_1 rfl
theorem wX6_next_105 : E_ d mX6_next 105 ls (.int y :: .int x :: st) h = E_ d mX6_next 106 ls (.int (x + y) :: st) h := e_go dX6_next_105 rfl rfl
theorem wX6_next_106 (ht : oT h a = 8) : E_ d mX6_next 106 ls (.int x :: .ref a :: st) h = E_ d mX6_next 109 ls st (pI h a (va_up (oI h a) 3 x)) := e_putI dX6_next_106 rfl rfl ht
theorem wX6_next_109 : E_ d mX6_next 109 ls st h = E_ d mX6_next 88 ls st h := e_gt dX6_next_109 rfl
theorem wX6_next_112 : E_ d mX6_next 112 [.val (.ref a), s1] st h = E_ d mX6_next 113 [.val (.ref a), s1] (.ref a :: st) h := e_go dX6_next_112 rfl rfl
theorem wX6_next_112q : E_ d mX6_next 112 [.val (va_rf q), s1] st h = E_ d mX6_next 113 [.val (va_rf q), s1] (va_rf q :: st) h := by cases q <;> exact e_go dX6_next_112 rfl rfl
theorem wX6_next_112n : E_ d mX6_next 112 [.val .null, s1] st h = E_ d mX6_next 113 [.val .null, s1] (.null :: st) h := e_go dX6_next_112 rfl rfl
theorem wX6_next_113 : E_ d mX6_next 113 ls st h = E_ d mX6_next 114 ls (.int (nI 1) :: st) h := e_iconst dX6_next_113 kiconst_1 rfl
theorem wX6_next_114 (ht : oT h a = 8) : E_ d mX6_next 114 ls (.int x :: .ref a :: st) h = E_ d mX6_next 117 ls st (pI h a (va_up (oI h a) 5 x)) := e_putI dX6_next_114 rfl rfl ht
theorem wX6_next_117 : E_ d mX6_next 117 ls st h = E_ d mX6_next 267 ls st h := e_gt dX6_next_117 rfl
theorem wX6_next_120 : E_ d mX6_next 120 [.val (.ref a), s1] st h = E_ d mX6_next 121 [.val (.ref a), s1] (.ref a :: st) h := e_go dX6_next_120 rfl rfl
theorem wX6_next_120q : E_ d mX6_next 120 [.val (va_rf q), s1] st h = E_ d mX6_next 121 [.val (va_rf q), s1] (va_rf q :: st) h := by cases q <;> exact e_go dX6_next_120 rfl rfl
theorem wX6_next_120n : E_ d mX6_next 120 [.val .null, s1] st h = E_ d mX6_next 121 [.val .null, s1] (.null :: st) h := e_go dX6_next_120 rfl rfl
theorem wX6_next_121 : E_ d mX6_next 121 [.val (.ref a), s1] st h = E_ d mX6_next 122 [.val (.ref a), s1] (.ref a :: st) h := e_go dX6_next_121 rfl rfl
theorem wX6_next_121q : E_ d mX6_next 121 [.val (va_rf q), s1] st h = E_ d mX6_next 122 [.val (va_rf q), s1] (va_rf q :: st) h := by cases q <;> exact e_go dX6_next_121 rfl rfl
theorem wX6_next_121n : E_ d mX6_next 121 [.val .null, s1] st h = E_ d mX6_next 122 [.val .null, s1] (.null :: st) h := e_go dX6_next_121 rfl rfl
theorem wX6_next_122 (ht : oT h a = 8) : E_ d mX6_next 122 ls (.ref a :: st) h = E_ d mX6_next 125 ls (.int (oI h a 3) :: st) h := e_getI dX6_next_122 rfl rfl ht
theorem wX6_next_125 (ht : oT h a = 8) : E_ (d + 1) mX6_next 125 ls [.int x1, .ref a] h = (C_ d mX6_isDigit [.ref a, .int x1] h).bind fun r => E_ (d + 1) mX6_next 128 ls (xpu r.1 []) r.2 := e_vir dX6_next_125 rfl rfl rfl rfl rfl rfl (Nat.le_of_ble_eq_true rfl) (Nat.le_of_ble_eq_true rfl) ht
theorem wX6_next_128 : E_ d mX6_next 128 ls (.int x :: st) h = if x = 0 then E_ d mX6_next 221 ls st h else E_ d mX6_next 131 ls st h := e_zeq dX6_next_128 rfl rfl
theorem wX6_next_131 : E_ d mX6_next 131 [.val (.ref a), s1] st h = E_ d mX6_next 132 [.val (.ref a), s1] (.ref a :: st) h := e_go dX6_next_131 rfl rfl
theorem wX6_next_131q : E_ d mX6_next 131 [.val (va_rf q), s1] st h = E_ d mX6_next 132 [.val (va_rf q), s1] (va_rf q :: st) h := by cases q <;> exact e_go dX6_next_131 rfl rfl
theorem wX6_next_131n : E_ d mX6_next 131 [.val .null, s1] st h = E_ d mX6_next 132 [.val .null, s1] (.null :: st) h := e_go dX6_next_131 rfl rfl
theorem wX6_next_132 : E_ d mX6_next 132 ls st h = E_ d mX6_next 133 ls (.int (nI 0) :: st) h := e_iconst dX6_next_132 kiconst_0 rfl
theorem wX6_next_133 (ht : oT h a = 8) : E_ d mX6_next 133 ls (.int x :: .ref a :: st) h = E_ d mX6_next 136 ls st (pI h a (va_up (oI h a) 6 x)) := e_putI dX6_next_133 rfl rfl ht
theorem wX6_next_136 : E_ d mX6_next 136 [.val (.ref a), s1] st h = E_ d mX6_next 137 [.val (.ref a), s1] (.ref a :: st) h := e_go dX6_next_136 rfl rfl
theorem wX6_next_136q : E_ d mX6_next 136 [.val (va_rf q), s1] st h = E_ d mX6_next 137 [.val (va_rf q), s1] (va_rf q :: st) h := by cases q <;> exact e_go dX6_next_136 rfl rfl
theorem wX6_next_136n : E_ d mX6_next 136 [.val .null, s1] st h = E_ d mX6_next 137 [.val .null, s1] (.null :: st) h := e_go dX6_next_136 rfl rfl
theorem wX6_next_137 : E_ d mX6_next 137 [.val (.ref a), s1] st h = E_ d mX6_next 138 [.val (.ref a), s1] (.ref a :: st) h := e_go dX6_next_137 rfl rfl
theorem wX6_next_137q : E_ d mX6_next 137 [.val (va_rf q), s1] st h = E_ d mX6_next 138 [.val (va_rf q), s1] (va_rf q :: st) h := by cases q <;> exact e_go dX6_next_137 rfl rfl
theorem wX6_next_137n : E_ d mX6_next 137 [.val .null, s1] st h = E_ d mX6_next 138 [.val .null, s1] (.null :: st) h := e_go dX6_next_137 rfl rfl
theorem wX6_next_138 (ht : oT h a = 8) : E_ d mX6_next 138 ls (.ref a :: st) h = E_ d mX6_next 141 ls (.int (oI h a 3) :: st) h := e_getI dX6_next_138 rfl rfl ht
theorem wX6_next_141 (ht : oT h a = 8) : E_ (d + 1) mX6_next 141 ls [.int x1, .ref a] h = (C_ d mX6_isDigit [.ref a, .int x1] h).bind fun r => E_ (d + 1) mX6_next 144 ls (xpu r.1 []) r.2 := e_vir dX6_next_141 rfl rfl rfl rfl rfl rfl (Nat.le_of_ble_eq_true rfl) (Nat.le_of_ble_eq_true rfl) ht
theorem wX6_next_144 : E_ d mX6_next 144 ls (.int x :: st) h = if x = 0 then E_ d mX6_next 196 ls st h else E_ d mX6_next 147 ls st h := e_zeq dX6_next_144 rfl rfl
theorem wX6_next_147 : E_ d mX6_next 147 [.val (.ref a), s1] st h = E_ d mX6_next 148 [.val (.ref a), s1] (.ref a :: st) h := e_go dX6_next_147 rfl rfl
theorem wX6_next_147q : E_ d mX6_next 147 [.val (va_rf q), s1] st h = E_ d mX6_next 148 [.val (va_rf q), s1] (va_rf q :: st) h := by cases q <;> exact e_go dX6_next_147 rfl rfl
theorem wX6_next_147n : E_ d mX6_next 147 [.val .null, s1] st h = E_ d mX6_next 148 [.val .null, s1] (.null :: st) h := e_go dX6_next_147 rfl rfl
theorem wX6_next_148 (ht : oT h a = 8) : E_ d mX6_next 148 ls (.ref a :: st) h = E_ d mX6_next 151 ls (.int (oI h a 3) :: st) h := e_getI dX6_next_148 rfl rfl ht
theorem wX6_next_151 : E_ d mX6_next 151 [.val (.ref a), s1] st h = E_ d mX6_next 152 [.val (.ref a), s1] (.ref a :: st) h := e_go dX6_next_151 rfl rfl
theorem wX6_next_151q : E_ d mX6_next 151 [.val (va_rf q), s1] st h = E_ d mX6_next 152 [.val (va_rf q), s1] (va_rf q :: st) h := by cases q <;> exact e_go dX6_next_151 rfl rfl
theorem wX6_next_151n : E_ d mX6_next 151 [.val .null, s1] st h = E_ d mX6_next 152 [.val .null, s1] (.null :: st) h := e_go dX6_next_151 rfl rfl
theorem wX6_next_152 (ht : oT h a = 8) : E_ d mX6_next 152 ls (.ref a :: st) h = E_ d mX6_next 155 ls (.int (oI h a 4) :: st) h := e_getI dX6_next_152 rfl rfl ht
theorem wX6_next_155 : E_ d mX6_next 155 ls (.int y :: .int x :: st) h = E_ d mX6_next 156 ls (.int (x - y) :: st) h := e_go dX6_next_155 rfl rfl
theorem wX6_next_156 : E_ d mX6_next 156 ls st h = E_ d mX6_next 157 ls (.int (nI 3) :: st) h := e_iconst dX6_next_156 kiconst_3 rfl
theorem wX6_next_157 : E_ d mX6_next 157 ls (.int y :: .int x :: st) h = if x < y then E_ d mX6_next 160 ls st h else E_ d mX6_next 183 ls st h := e_ige dX6_next_157 rfl rfl
theorem wX6_next_160 : E_ d mX6_next 160 [.val (.ref a), s1] st h = E_ d mX6_next 161 [.val (.ref a), s1] (.ref a :: st) h := e_go dX6_next_160 rfl rfl
theorem wX6_next_160q : E_ d mX6_next 160 [.val (va_rf q), s1] st h = E_ d mX6_next 161 [.val (va_rf q), s1] (va_rf q :: st) h := by cases q <;> exact e_go dX6_next_160 rfl rfl
theorem wX6_next_160n : E_ d mX6_next 160 [.val .null, s1] st h = E_ d mX6_next 161 [.val .null, s1] (.null :: st) h := e_go dX6_next_160 rfl rfl
theorem wX6_next_161 : E_ d mX6_next 161 ls st h = E_ d mX6_next 163 ls (.int (nI 10) :: st) h := e_bipush dX6_next_161 kbipush_10 rfl
theorem wX6_next_163 : E_ d mX6_next 163 [.val (.ref a), s1] st h = E_ d mX6_next 164 [.val (.ref a), s1] (.ref a :: st) h := e_go dX6_next_163 rfl rfl
theorem wX6_next_163q : E_ d mX6_next 163 [.val (va_rf q), s1] st h = E_ d mX6_next 164 [.val (va_rf q), s1] (va_rf q :: st) h := by cases q <;> exact e_go dX6_next_163 rfl rfl
theorem wX6_next_163n : E_ d mX6_next 163 [.val .null, s1] st h = E_ d mX6_next 164 [.val .null, s1] (.null :: st) h := e_go dX6_next_163 rfl rfl
theorem wX6_next_164 (ht : oT h a = 8) : E_ d mX6_next 164 ls (.ref a :: st) h = E_ d mX6_next 167 ls (.int (oI h a 6) :: st) h := e_getI dX6_next_164 rfl rfl ht
theorem wX6_next_167 : E_ d mX6_next 167 ls (.int y :: .int x :: st) h = E_ d mX6_next 168 ls (.int (x * y) :: st) h := e_go dX6_next_167 rfl rfl
theorem wX6_next_168 : E_ d mX6_next 168 [.val (.ref a), s1] st h = E_ d mX6_next 169 [.val (.ref a), s1] (.ref a :: st) h := e_go dX6_next_168 rfl rfl
theorem wX6_next_168q : E_ d mX6_next 168 [.val (va_rf q), s1] st h = E_ d mX6_next 169 [.val (va_rf q), s1] (va_rf q :: st) h := by cases q <;> exact e_go dX6_next_168 rfl rfl
theorem wX6_next_168n : E_ d mX6_next 168 [.val .null, s1] st h = E_ d mX6_next 169 [.val .null, s1] (.null :: st) h := e_go dX6_next_168 rfl rfl
theorem wX6_next_169 : E_ d mX6_next 169 [.val (.ref a), s1] st h = E_ d mX6_next 170 [.val (.ref a), s1] (.ref a :: st) h := e_go dX6_next_169 rfl rfl
theorem wX6_next_169q : E_ d mX6_next 169 [.val (va_rf q), s1] st h = E_ d mX6_next 170 [.val (va_rf q), s1] (va_rf q :: st) h := by cases q <;> exact e_go dX6_next_169 rfl rfl
theorem wX6_next_169n : E_ d mX6_next 169 [.val .null, s1] st h = E_ d mX6_next 170 [.val .null, s1] (.null :: st) h := e_go dX6_next_169 rfl rfl
theorem wX6_next_170 (ht : oT h a = 8) : E_ d mX6_next 170 ls (.ref a :: st) h = E_ d mX6_next 173 ls (.int (oI h a 3) :: st) h := e_getI dX6_next_170 rfl rfl ht
theorem wX6_next_173 (ht : oT h a = 8) : E_ (d + 1) mX6_next 173 ls [.int x1, .ref a, .int x2, .ref r1] h = (C_ d mX6_see [.ref a, .int x1] h).bind fun r => E_ (d + 1) mX6_next 176 ls (xpu r.1 [.int x2, .ref r1]) r.2 := e_vir dX6_next_173 rfl rfl rfl rfl rfl rfl (Nat.le_of_ble_eq_true rfl) (Nat.le_of_ble_eq_true rfl) ht
theorem wX6_next_176 : E_ d mX6_next 176 ls (.int y :: .int x :: st) h = E_ d mX6_next 177 ls (.int (x + y) :: st) h := e_go dX6_next_176 rfl rfl
theorem wX6_next_177 : E_ d mX6_next 177 ls st h = E_ d mX6_next 179 ls (.int (nI 48) :: st) h := e_bipush dX6_next_177 kbipush_48 rfl
theorem wX6_next_179 : E_ d mX6_next 179 ls (.int y :: .int x :: st) h = E_ d mX6_next 180 ls (.int (x - y) :: st) h := e_go dX6_next_179 rfl rfl
theorem wX6_next_180 (ht : oT h a = 8) : E_ d mX6_next 180 ls (.int x :: .ref a :: st) h = E_ d mX6_next 183 ls st (pI h a (va_up (oI h a) 6 x)) := e_putI dX6_next_180 rfl rfl ht
theorem wX6_next_183 : E_ d mX6_next 183 [.val (.ref a), s1] st h = E_ d mX6_next 184 [.val (.ref a), s1] (.ref a :: st) h := e_go dX6_next_183 rfl rfl
theorem wX6_next_183q : E_ d mX6_next 183 [.val (va_rf q), s1] st h = E_ d mX6_next 184 [.val (va_rf q), s1] (va_rf q :: st) h := by cases q <;> exact e_go dX6_next_183 rfl rfl
theorem wX6_next_183n : E_ d mX6_next 183 [.val .null, s1] st h = E_ d mX6_next 184 [.val .null, s1] (.null :: st) h := e_go dX6_next_183 rfl rfl
theorem wX6_next_184 : E_ d mX6_next 184 ls (.ref a :: st) h = E_ d mX6_next 185 ls (.ref a :: .ref a :: st) h := e_go dX6_next_184 rfl rfl
theorem wX6_next_185 (ht : oT h a = 8) : E_ d mX6_next 185 ls (.ref a :: st) h = E_ d mX6_next 188 ls (.int (oI h a 3) :: st) h := e_getI dX6_next_185 rfl rfl ht
theorem wX6_next_188 : E_ d mX6_next 188 ls st h = E_ d mX6_next 189 ls (.int (nI 1) :: st) h := e_iconst dX6_next_188 kiconst_1 rfl
theorem wX6_next_189 : E_ d mX6_next 189 ls (.int y :: .int x :: st) h = E_ d mX6_next 190 ls (.int (x + y) :: st) h := e_go dX6_next_189 rfl rfl
theorem wX6_next_190 (ht : oT h a = 8) : E_ d mX6_next 190 ls (.int x :: .ref a :: st) h = E_ d mX6_next 193 ls st (pI h a (va_up (oI h a) 3 x)) := e_putI dX6_next_190 rfl rfl ht
theorem wX6_next_193 : E_ d mX6_next 193 ls st h = E_ d mX6_next 136 ls st h := e_gt dX6_next_193 rfl
theorem wX6_next_196 : E_ d mX6_next 196 [.val (.ref a), s1] st h = E_ d mX6_next 197 [.val (.ref a), s1] (.ref a :: st) h := e_go dX6_next_196 rfl rfl
theorem wX6_next_196q : E_ d mX6_next 196 [.val (va_rf q), s1] st h = E_ d mX6_next 197 [.val (va_rf q), s1] (va_rf q :: st) h := by cases q <;> exact e_go dX6_next_196 rfl rfl
theorem wX6_next_196n : E_ d mX6_next 196 [.val .null, s1] st h = E_ d mX6_next 197 [.val .null, s1] (.null :: st) h := e_go dX6_next_196 rfl rfl
theorem wX6_next_197 : E_ d mX6_next 197 [.val (.ref a), s1] st h = E_ d mX6_next 198 [.val (.ref a), s1] (.ref a :: st) h := e_go dX6_next_197 rfl rfl
theorem wX6_next_197q : E_ d mX6_next 197 [.val (va_rf q), s1] st h = E_ d mX6_next 198 [.val (va_rf q), s1] (va_rf q :: st) h := by cases q <;> exact e_go dX6_next_197 rfl rfl
theorem wX6_next_197n : E_ d mX6_next 197 [.val .null, s1] st h = E_ d mX6_next 198 [.val .null, s1] (.null :: st) h := e_go dX6_next_197 rfl rfl
theorem wX6_next_198 (ht : oT h a = 8) : E_ d mX6_next 198 ls (.ref a :: st) h = E_ d mX6_next 201 ls (.int (oI h a 3) :: st) h := e_getI dX6_next_198 rfl rfl ht
theorem wX6_next_201 : E_ d mX6_next 201 [.val (.ref a), s1] st h = E_ d mX6_next 202 [.val (.ref a), s1] (.ref a :: st) h := e_go dX6_next_201 rfl rfl
theorem wX6_next_201q : E_ d mX6_next 201 [.val (va_rf q), s1] st h = E_ d mX6_next 202 [.val (va_rf q), s1] (va_rf q :: st) h := by cases q <;> exact e_go dX6_next_201 rfl rfl
theorem wX6_next_201n : E_ d mX6_next 201 [.val .null, s1] st h = E_ d mX6_next 202 [.val .null, s1] (.null :: st) h := e_go dX6_next_201 rfl rfl
theorem wX6_next_202 (ht : oT h a = 8) : E_ d mX6_next 202 ls (.ref a :: st) h = E_ d mX6_next 205 ls (.int (oI h a 4) :: st) h := e_getI dX6_next_202 rfl rfl ht
theorem wX6_next_205 : E_ d mX6_next 205 ls (.int y :: .int x :: st) h = E_ d mX6_next 206 ls (.int (x - y) :: st) h := e_go dX6_next_205 rfl rfl
theorem wX6_next_206 : E_ d mX6_next 206 ls st h = E_ d mX6_next 207 ls (.int (nI 3) :: st) h := e_iconst dX6_next_206 kiconst_3 rfl
theorem wX6_next_207 : E_ d mX6_next 207 ls (.int y :: .int x :: st) h = if y < x then E_ d mX6_next 210 ls st h else E_ d mX6_next 214 ls st h := e_ile dX6_next_207 rfl rfl
theorem wX6_next_210 : E_ d mX6_next 210 ls st h = E_ d mX6_next 211 ls (.int (nI 3) :: st) h := e_iconst dX6_next_210 kiconst_3 rfl
theorem wX6_next_211 : E_ d mX6_next 211 ls st h = E_ d mX6_next 215 ls st h := e_gt dX6_next_211 rfl
theorem wX6_next_214 : E_ d mX6_next 214 ls st h = E_ d mX6_next 215 ls (.int (nI 2) :: st) h := e_iconst dX6_next_214 kiconst_2 rfl
theorem wX6_next_215 (ht : oT h a = 8) : E_ d mX6_next 215 ls (.int x :: .ref a :: st) h = E_ d mX6_next 218 ls st (pI h a (va_up (oI h a) 5 x)) := e_putI dX6_next_215 rfl rfl ht
theorem wX6_next_218 : E_ d mX6_next 218 ls st h = E_ d mX6_next 267 ls st h := e_gt dX6_next_218 rfl
theorem wX6_next_221 : E_ d mX6_next 221 [.val (.ref a), s1] st h = E_ d mX6_next 222 [.val (.ref a), s1] (.ref a :: st) h := e_go dX6_next_221 rfl rfl
theorem wX6_next_221q : E_ d mX6_next 221 [.val (va_rf q), s1] st h = E_ d mX6_next 222 [.val (va_rf q), s1] (va_rf q :: st) h := by cases q <;> exact e_go dX6_next_221 rfl rfl
theorem wX6_next_221n : E_ d mX6_next 221 [.val .null, s1] st h = E_ d mX6_next 222 [.val .null, s1] (.null :: st) h := e_go dX6_next_221 rfl rfl
theorem wX6_next_222 : E_ d mX6_next 222 [.val (.ref a), s1] st h = E_ d mX6_next 223 [.val (.ref a), s1] (.ref a :: st) h := e_go dX6_next_222 rfl rfl
theorem wX6_next_222q : E_ d mX6_next 222 [.val (va_rf q), s1] st h = E_ d mX6_next 223 [.val (va_rf q), s1] (va_rf q :: st) h := by cases q <;> exact e_go dX6_next_222 rfl rfl
theorem wX6_next_222n : E_ d mX6_next 222 [.val .null, s1] st h = E_ d mX6_next 223 [.val .null, s1] (.null :: st) h := e_go dX6_next_222 rfl rfl
theorem wX6_next_223 (ht : oT h a = 8) : E_ d mX6_next 223 ls (.ref a :: st) h = E_ d mX6_next 226 ls (.int (oI h a 3) :: st) h := e_getI dX6_next_223 rfl rfl ht
theorem wX6_next_226 (ht : oT h a = 8) : E_ (d + 1) mX6_next 226 ls [.int x1, .ref a] h = (C_ d mX6_see [.ref a, .int x1] h).bind fun r => E_ (d + 1) mX6_next 229 ls (xpu r.1 []) r.2 := e_vir dX6_next_226 rfl rfl rfl rfl rfl rfl (Nat.le_of_ble_eq_true rfl) (Nat.le_of_ble_eq_true rfl) ht
theorem wX6_next_229 : E_ d mX6_next 229 [s0, s1] (.int x :: st) h = E_ d mX6_next 230 [xk s0, .val (.int x)] st h := e_go dX6_next_229 rfl rfl
theorem wX6_next_230 : E_ d mX6_next 230 [.val (.ref a), s1] st h = E_ d mX6_next 231 [.val (.ref a), s1] (.ref a :: st) h := e_go dX6_next_230 rfl rfl
theorem wX6_next_230q : E_ d mX6_next 230 [.val (va_rf q), s1] st h = E_ d mX6_next 231 [.val (va_rf q), s1] (va_rf q :: st) h := by cases q <;> exact e_go dX6_next_230 rfl rfl
theorem wX6_next_230n : E_ d mX6_next 230 [.val .null, s1] st h = E_ d mX6_next 231 [.val .null, s1] (.null :: st) h := e_go dX6_next_230 rfl rfl
theorem wX6_next_231 : E_ d mX6_next 231 ls (.ref a :: st) h = E_ d mX6_next 232 ls (.ref a :: .ref a :: st) h := e_go dX6_next_231 rfl rfl
theorem wX6_next_232 (ht : oT h a = 8) : E_ d mX6_next 232 ls (.ref a :: st) h = E_ d mX6_next 235 ls (.int (oI h a 3) :: st) h := e_getI dX6_next_232 rfl rfl ht
theorem wX6_next_235 : E_ d mX6_next 235 ls st h = E_ d mX6_next 236 ls (.int (nI 1) :: st) h := e_iconst dX6_next_235 kiconst_1 rfl
theorem wX6_next_236 : E_ d mX6_next 236 ls (.int y :: .int x :: st) h = E_ d mX6_next 237 ls (.int (x + y) :: st) h := e_go dX6_next_236 rfl rfl
theorem wX6_next_237 (ht : oT h a = 8) : E_ d mX6_next 237 ls (.int x :: .ref a :: st) h = E_ d mX6_next 240 ls st (pI h a (va_up (oI h a) 3 x)) := e_putI dX6_next_237 rfl rfl ht
theorem wX6_next_240 : E_ d mX6_next 240 [.val (.ref a), s1] st h = E_ d mX6_next 241 [.val (.ref a), s1] (.ref a :: st) h := e_go dX6_next_240 rfl rfl
theorem wX6_next_240q : E_ d mX6_next 240 [.val (va_rf q), s1] st h = E_ d mX6_next 241 [.val (va_rf q), s1] (va_rf q :: st) h := by cases q <;> exact e_go dX6_next_240 rfl rfl
theorem wX6_next_240n : E_ d mX6_next 240 [.val .null, s1] st h = E_ d mX6_next 241 [.val .null, s1] (.null :: st) h := e_go dX6_next_240 rfl rfl
theorem wX6_next_241 : E_ d mX6_next 241 [s0, .val (.int x)] st h = E_ d mX6_next 242 [s0, .val (.int x)] (.int x :: st) h := e_go dX6_next_241 rfl rfl
theorem wX6_next_242 : E_ d mX6_next 242 ls st h = E_ d mX6_next 244 ls (.int (nI 59) :: st) h := e_bipush dX6_next_242 kbipush_59 rfl
theorem wX6_next_244 : E_ d mX6_next 244 ls (.int y :: .int x :: st) h = if x = y then E_ d mX6_next 259 ls st h else E_ d mX6_next 247 ls st h := e_ieq dX6_next_244 rfl rfl
theorem wX6_next_247 : E_ d mX6_next 247 [s0, .val (.int x)] st h = E_ d mX6_next 248 [s0, .val (.int x)] (.int x :: st) h := e_go dX6_next_247 rfl rfl
theorem wX6_next_248 : E_ d mX6_next 248 ls st h = E_ d mX6_next 250 ls (.int (nI 40) :: st) h := e_bipush dX6_next_248 kbipush_40 rfl
theorem wX6_next_250 : E_ d mX6_next 250 ls (.int y :: .int x :: st) h = if x = y then E_ d mX6_next 259 ls st h else E_ d mX6_next 253 ls st h := e_ieq dX6_next_250 rfl rfl
theorem wX6_next_253 : E_ d mX6_next 253 [s0, .val (.int x)] st h = E_ d mX6_next 254 [s0, .val (.int x)] (.int x :: st) h := e_go dX6_next_253 rfl rfl
theorem wX6_next_254 : E_ d mX6_next 254 ls st h = E_ d mX6_next 256 ls (.int (nI 41) :: st) h := e_bipush dX6_next_254 kbipush_41 rfl
theorem wX6_next_256 : E_ d mX6_next 256 ls (.int y :: .int x :: st) h = if x = y then E_ d mX6_next 259 ls st h else E_ d mX6_next 263 ls st h := e_ine dX6_next_256 rfl rfl
theorem wX6_next_259 : E_ d mX6_next 259 [s0, .val (.int x)] st h = E_ d mX6_next 260 [s0, .val (.int x)] (.int x :: st) h := e_go dX6_next_259 rfl rfl
theorem wX6_next_260 : E_ d mX6_next 260 ls st h = E_ d mX6_next 264 ls st h := e_gt dX6_next_260 rfl
theorem wX6_next_263 : E_ d mX6_next 263 ls st h = E_ d mX6_next 264 ls (.int (nI 3) :: st) h := e_iconst dX6_next_263 kiconst_3 rfl
theorem wX6_next_264 (ht : oT h a = 8) : E_ d mX6_next 264 ls (.int x :: .ref a :: st) h = E_ d mX6_next 267 ls st (pI h a (va_up (oI h a) 5 x)) := e_putI dX6_next_264 rfl rfl ht
theorem wX6_next_267 : E_ d mX6_next 267 ls [] h = some (none, h) := e_rt dX6_next_267 rfl rfl
/-! FootOut$Reader.see -/
theorem wX6_see_0 : E_ d mX6_see 0 [s0, .val (.int x)] st h = E_ d mX6_see 1 [s0, .val (.int x)] (.int x :: st) h := e_go dX6_see_0 rfl rfl
theorem wX6_see_1 : E_ d mX6_see 1 [.val (.ref a), s1] st h = E_ d mX6_see 2 [.val (.ref a), s1] (.ref a :: st) h := e_go dX6_see_1 rfl rfl
theorem wX6_see_1q : E_ d mX6_see 1 [.val (va_rf q), s1] st h = E_ d mX6_see 2 [.val (va_rf q), s1] (va_rf q :: st) h := by cases q <;> exact e_go dX6_see_1 rfl rfl
theorem wX6_see_1n : E_ d mX6_see 1 [.val .null, s1] st h = E_ d mX6_see 2 [.val .null, s1] (.null :: st) h := e_go dX6_see_1 rfl rfl
theorem wX6_see_2 (ht : oT h a = 8) : E_ d mX6_see 2 ls (.ref a :: st) h = E_ d mX6_see 5 ls (.int (oI h a 0) :: st) h := e_getI0 dX6_see_2 rfl rfl ht
theorem wX6_see_5 : E_ d mX6_see 5 ls (.int y :: .int x :: st) h = if x < y then E_ d mX6_see 8 ls st h else E_ d mX6_see 24 ls st h := e_ige dX6_see_5 rfl rfl
theorem wX6_see_8 : E_ d mX6_see 8 [.val (.ref a), s1] st h = E_ d mX6_see 9 [.val (.ref a), s1] (.ref a :: st) h := e_go dX6_see_8 rfl rfl
theorem wX6_see_8q : E_ d mX6_see 8 [.val (va_rf q), s1] st h = E_ d mX6_see 9 [.val (va_rf q), s1] (va_rf q :: st) h := by cases q <;> exact e_go dX6_see_8 rfl rfl
theorem wX6_see_8n : E_ d mX6_see 8 [.val .null, s1] st h = E_ d mX6_see 9 [.val .null, s1] (.null :: st) h := e_go dX6_see_8 rfl rfl
theorem wX6_see_9 (ht : oT h a = 8) : E_ d mX6_see 9 ls (.ref a :: st) h = E_ d mX6_see 12 ls (va_rf (oR h a 10) :: st) h := e_getR0 dX6_see_9 rfl rfl ht
theorem wX6_see_12 (ht : oT h a = 1) : E_ d mX6_see 12 ls (.ref a :: st) h = E_ d mX6_see 15 ls (va_rf (oR h a 3) :: st) h := e_getR0 dX6_see_12 rfl rfl ht
theorem wX6_see_15 : E_ d mX6_see 15 [s0, .val (.int x)] st h = E_ d mX6_see 16 [s0, .val (.int x)] (.int x :: st) h := e_go dX6_see_15 rfl rfl
theorem wX6_see_16 (ht : oT h a = 41 ∨ oT h a = 42) (hi : xix x (oN h a) = true) : E_ d mX6_see 16 ls (.int x :: .ref a :: st) h = E_ d mX6_see 17 ls (.int (oI h a x.toNatClampNeg) :: st) h := e_bald dX6_see_16 rfl ht hi
theorem wX6_see_17 : E_ d mX6_see 17 ls st h = E_ d mX6_see 20 ls (.int (nI 255) :: st) h := e_sipush dX6_see_17 ksipush_255 rfl
theorem wX6_see_20 : E_ d mX6_see 20 ls (.int y :: .int x :: st) h = E_ d mX6_see 21 ls (.int (x &&& y) :: st) h := e_go dX6_see_20 rfl rfl
theorem wX6_see_21 : E_ d mX6_see 21 ls st h = E_ d mX6_see 25 ls st h := e_gt dX6_see_21 rfl
theorem wX6_see_24 : E_ d mX6_see 24 ls st h = E_ d mX6_see 25 ls (.int (nI 0) :: st) h := e_iconst dX6_see_24 kiconst_0 rfl
theorem wX6_see_25 : E_ d mX6_see 25 ls [.int x] h = some (some (.int x), h) := e_rt dX6_see_25 rfl rfl
/-! FootOut$Reader.isSmall -/
theorem wX6_isSmall_0 : E_ d mX6_isSmall 0 [.val (.ref a), s1] st h = E_ d mX6_isSmall 1 [.val (.ref a), s1] (.ref a :: st) h := e_go dX6_isSmall_0 rfl rfl
theorem wX6_isSmall_0q : E_ d mX6_isSmall 0 [.val (va_rf q), s1] st h = E_ d mX6_isSmall 1 [.val (va_rf q), s1] (va_rf q :: st) h := by cases q <;> exact e_go dX6_isSmall_0 rfl rfl
theorem wX6_isSmall_0n : E_ d mX6_isSmall 0 [.val .null, s1] st h = E_ d mX6_isSmall 1 [.val .null, s1] (.null :: st) h := e_go dX6_isSmall_0 rfl rfl
theorem wX6_isSmall_1 : E_ d mX6_isSmall 1 [s0, .val (.int x)] st h = E_ d mX6_isSmall 2 [s0, .val (.int x)] (.int x :: st) h := e_go dX6_isSmall_1 rfl rfl
theorem wX6_isSmall_2 (ht : oT h a = 8) : E_ (d + 1) mX6_isSmall 2 ls [.int x1, .ref a] h = (C_ d mX6_see [.ref a, .int x1] h).bind fun r => E_ (d + 1) mX6_isSmall 5 ls (xpu r.1 []) r.2 := e_vir dX6_isSmall_2 rfl rfl rfl rfl rfl rfl (Nat.le_of_ble_eq_true rfl) (Nat.le_of_ble_eq_true rfl) ht
theorem wX6_isSmall_5 : E_ d mX6_isSmall 5 ls (.int x :: st) h = E_ d mX6_isSmall 6 ls (.long x.toInt64 :: st) h := e_go dX6_isSmall_5 rfl rfl
theorem wX6_isSmall_6 : E_ d mX6_isSmall 6 ls st h = E_ d mX6_isSmall 9 ls (.long (97) :: st) h := e_go dX6_isSmall_6 rfl rfl
theorem wX6_isSmall_9 : E_ d mX6_isSmall 9 ls st h = E_ d mX6_isSmall 12 ls (.long (122) :: st) h := e_go dX6_isSmall_9 rfl rfl
theorem wX6_isSmall_12 : E_ (d + 1) mX6_isSmall 12 ls [.long u3, .long u2, .long u1] h = (C_ d mX0_in [.long u1, .long u2, .long u3] h).bind fun r => E_ (d + 1) mX6_isSmall 15 ls (xpu r.1 []) r.2 := e_call dX6_isSmall_12 rfl rfl
theorem wX6_isSmall_15 (hx : x = 0 ∨ x = 1) : E_ d mX6_isSmall 15 ls [.int x] h = some (some (.int x), h) := e_rtZ dX6_isSmall_15 rfl hx
/-! FootOut$Reader.isDigit -/
theorem wX6_isDigit_0 : E_ d mX6_isDigit 0 [.val (.ref a), s1] st h = E_ d mX6_isDigit 1 [.val (.ref a), s1] (.ref a :: st) h := e_go dX6_isDigit_0 rfl rfl
theorem wX6_isDigit_0q : E_ d mX6_isDigit 0 [.val (va_rf q), s1] st h = E_ d mX6_isDigit 1 [.val (va_rf q), s1] (va_rf q :: st) h := by cases q <;> exact e_go dX6_isDigit_0 rfl rfl
theorem wX6_isDigit_0n : E_ d mX6_isDigit 0 [.val .null, s1] st h = E_ d mX6_isDigit 1 [.val .null, s1] (.null :: st) h := e_go dX6_isDigit_0 rfl rfl
theorem wX6_isDigit_1 : E_ d mX6_isDigit 1 [s0, .val (.int x)] st h = E_ d mX6_isDigit 2 [s0, .val (.int x)] (.int x :: st) h := e_go dX6_isDigit_1 rfl rfl
theorem wX6_isDigit_2 (ht : oT h a = 8) : E_ (d + 1) mX6_isDigit 2 ls [.int x1, .ref a] h = (C_ d mX6_see [.ref a, .int x1] h).bind fun r => E_ (d + 1) mX6_isDigit 5 ls (xpu r.1 []) r.2 := e_vir dX6_isDigit_2 rfl rfl rfl rfl rfl rfl (Nat.le_of_ble_eq_true rfl) (Nat.le_of_ble_eq_true rfl) ht
theorem wX6_isDigit_5 : E_ d mX6_isDigit 5 ls (.int x :: st) h = E_ d mX6_isDigit 6 ls (.long x.toInt64 :: st) h := e_go dX6_isDigit_5 rfl rfl
theorem wX6_isDigit_6 : E_ d mX6_isDigit 6 ls st h = E_ d mX6_isDigit 9 ls (.long (48) :: st) h := e_go dX6_isDigit_6 rfl rfl
theorem wX6_isDigit_9 : E_ d mX6_isDigit 9 ls st h = E_ d mX6_isDigit 12 ls (.long (57) :: st) h := e_go dX6_isDigit_9 rfl rfl
theorem wX6_isDigit_12 : E_ (d + 1) mX6_isDigit 12 ls [.long u3, .long u2, .long u1] h = (C_ d mX0_in [.long u1, .long u2, .long u3] h).bind fun r => E_ (d + 1) mX6_isDigit 15 ls (xpu r.1 []) r.2 := e_call dX6_isDigit_12 rfl rfl
theorem wX6_isDigit_15 (hx : x = 0 ∨ x = 1) : E_ d mX6_isDigit 15 ls [.int x] h = some (some (.int x), h) := e_rtZ dX6_isDigit_15 rfl hx
/-! FootOut$Reader.line -/
theorem wX6_line_0 : E_ d mX6_line 0 [.val (.ref a)] st h = E_ d mX6_line 1 [.val (.ref a)] (.ref a :: st) h := e_go dX6_line_0 rfl rfl
theorem wX6_line_0q : E_ d mX6_line 0 [.val (va_rf q)] st h = E_ d mX6_line 1 [.val (va_rf q)] (va_rf q :: st) h := by cases q <;> exact e_go dX6_line_0 rfl rfl
theorem wX6_line_0n : E_ d mX6_line 0 [.val .null] st h = E_ d mX6_line 1 [.val .null] (.null :: st) h := e_go dX6_line_0 rfl rfl
theorem wX6_line_1 : E_ d mX6_line 1 ls st h = E_ d mX6_line 3 ls (.ref 1 :: st) h := e_go dX6_line_1 rfl rfl
theorem wX6_line_3 (ht : oT h a = 8) : E_ (d + 1) mX6_line 3 ls [.ref r1, .ref a] h = (C_ d mX6_is [.ref a, .ref r1] h).bind fun r => E_ (d + 1) mX6_line 6 ls (xpu r.1 []) r.2 := e_vir dX6_line_3 rfl rfl rfl rfl rfl rfl (Nat.le_of_ble_eq_true rfl) (Nat.le_of_ble_eq_true rfl) ht
theorem wX6_line_6 : E_ d mX6_line 6 ls (.int x :: st) h = if x = 0 then E_ d mX6_line 16 ls st h else E_ d mX6_line 9 ls st h := e_zeq dX6_line_6 rfl rfl
theorem wX6_line_9 : E_ d mX6_line 9 [.val (.ref a)] st h = E_ d mX6_line 10 [.val (.ref a)] (.ref a :: st) h := e_go dX6_line_9 rfl rfl
theorem wX6_line_9q : E_ d mX6_line 9 [.val (va_rf q)] st h = E_ d mX6_line 10 [.val (va_rf q)] (va_rf q :: st) h := by cases q <;> exact e_go dX6_line_9 rfl rfl
theorem wX6_line_9n : E_ d mX6_line 9 [.val .null] st h = E_ d mX6_line 10 [.val .null] (.null :: st) h := e_go dX6_line_9 rfl rfl
theorem wX6_line_10 (ht : oT h a = 8) : E_ (d + 1) mX6_line 10 ls [.ref a] h = (C_ d mX6_car [.ref a] h).bind fun r => E_ (d + 1) mX6_line 13 ls (xpu r.1 []) r.2 := e_vir dX6_line_10 rfl rfl rfl rfl rfl rfl (Nat.le_of_ble_eq_true rfl) (Nat.le_of_ble_eq_true rfl) ht
theorem wX6_line_13 : E_ d mX6_line 13 ls st h = E_ d mX6_line 153 ls st h := e_gt dX6_line_13 rfl
theorem wX6_line_16 : E_ d mX6_line 16 [.val (.ref a)] st h = E_ d mX6_line 17 [.val (.ref a)] (.ref a :: st) h := e_go dX6_line_16 rfl rfl
theorem wX6_line_16q : E_ d mX6_line 16 [.val (va_rf q)] st h = E_ d mX6_line 17 [.val (va_rf q)] (va_rf q :: st) h := by cases q <;> exact e_go dX6_line_16 rfl rfl
theorem wX6_line_16n : E_ d mX6_line 16 [.val .null] st h = E_ d mX6_line 17 [.val .null] (.null :: st) h := e_go dX6_line_16 rfl rfl
theorem wX6_line_17 : E_ d mX6_line 17 ls st h = E_ d mX6_line 19 ls (.ref 5 :: st) h := e_go dX6_line_17 rfl rfl
theorem wX6_line_19 (ht : oT h a = 8) : E_ (d + 1) mX6_line 19 ls [.ref r1, .ref a] h = (C_ d mX6_takes [.ref a, .ref r1] h).bind fun r => E_ (d + 1) mX6_line 22 ls (xpu r.1 []) r.2 := e_vir dX6_line_19 rfl rfl rfl rfl rfl rfl (Nat.le_of_ble_eq_true rfl) (Nat.le_of_ble_eq_true rfl) ht
theorem wX6_line_22 : E_ d mX6_line 22 ls (.int x :: st) h = if x = 0 then E_ d mX6_line 44 ls st h else E_ d mX6_line 25 ls st h := e_zeq dX6_line_22 rfl rfl
theorem wX6_line_25 : E_ d mX6_line 25 [.val (.ref a)] st h = E_ d mX6_line 26 [.val (.ref a)] (.ref a :: st) h := e_go dX6_line_25 rfl rfl
theorem wX6_line_25q : E_ d mX6_line 25 [.val (va_rf q)] st h = E_ d mX6_line 26 [.val (va_rf q)] (va_rf q :: st) h := by cases q <;> exact e_go dX6_line_25 rfl rfl
theorem wX6_line_25n : E_ d mX6_line 25 [.val .null] st h = E_ d mX6_line 26 [.val .null] (.null :: st) h := e_go dX6_line_25 rfl rfl
theorem wX6_line_26 (ht : oT h a = 8) : E_ d mX6_line 26 ls (.ref a :: st) h = E_ d mX6_line 29 ls (va_rf (oR h a 1) :: st) h := e_getR0 dX6_line_26 rfl rfl ht
theorem wX6_line_29 : E_ d mX6_line 29 [.val (.ref a)] st h = E_ d mX6_line 30 [.val (.ref a)] (.ref a :: st) h := e_go dX6_line_29 rfl rfl
theorem wX6_line_29q : E_ d mX6_line 29 [.val (va_rf q)] st h = E_ d mX6_line 30 [.val (va_rf q)] (va_rf q :: st) h := by cases q <;> exact e_go dX6_line_29 rfl rfl
theorem wX6_line_29n : E_ d mX6_line 29 [.val .null] st h = E_ d mX6_line 30 [.val .null] (.null :: st) h := e_go dX6_line_29 rfl rfl
theorem wX6_line_30 : E_ d mX6_line 30 [.val (.ref a)] st h = E_ d mX6_line 31 [.val (.ref a)] (.ref a :: st) h := e_go dX6_line_30 rfl rfl
theorem wX6_line_30q : E_ d mX6_line 30 [.val (va_rf q)] st h = E_ d mX6_line 31 [.val (va_rf q)] (va_rf q :: st) h := by cases q <;> exact e_go dX6_line_30 rfl rfl
theorem wX6_line_30n : E_ d mX6_line 30 [.val .null] st h = E_ d mX6_line 31 [.val .null] (.null :: st) h := e_go dX6_line_30 rfl rfl
theorem wX6_line_31 (ht : oT h a = 8) : E_ (d + 1) mX6_line 31 ls [.ref a, .ref r1, .ref r2] h = (C_ d mX6_leastLanes [.ref a] h).bind fun r => E_ (d + 1) mX6_line 34 ls (xpu r.1 [.ref r1, .ref r2]) r.2 := e_vir dX6_line_31 rfl rfl rfl rfl rfl rfl (Nat.le_of_ble_eq_true rfl) (Nat.le_of_ble_eq_true rfl) ht
theorem wX6_line_34 : E_ d mX6_line 34 ls st h = E_ d mX6_line 35 ls (.int (nI 4) :: st) h := e_iconst dX6_line_34 kiconst_4 rfl
theorem wX6_line_35 (ht : oT h a = 8) : E_ (d + 1) mX6_line 35 ls [.int x2, .int x1, .ref a, .ref r1] h = (C_ d mX6_number [.ref a, .int x1, .int x2] h).bind fun r => E_ (d + 1) mX6_line 38 ls (xpu r.1 [.ref r1]) r.2 := e_vir dX6_line_35 rfl rfl rfl rfl rfl rfl (Nat.le_of_ble_eq_true rfl) (Nat.le_of_ble_eq_true rfl) ht
theorem wX6_line_38 (ht : oT h a = 3) : E_ d mX6_line 38 ls (.int x :: .ref a :: st) h = E_ d mX6_line 41 ls st (pI h a (va_up (oI h a) 1 x)) := e_putI dX6_line_38 rfl rfl ht
theorem wX6_line_41 : E_ d mX6_line 41 ls st h = E_ d mX6_line 153 ls st h := e_gt dX6_line_41 rfl
theorem wX6_line_44 : E_ d mX6_line 44 [.val (.ref a)] st h = E_ d mX6_line 45 [.val (.ref a)] (.ref a :: st) h := e_go dX6_line_44 rfl rfl
theorem wX6_line_44q : E_ d mX6_line 44 [.val (va_rf q)] st h = E_ d mX6_line 45 [.val (va_rf q)] (va_rf q :: st) h := by cases q <;> exact e_go dX6_line_44 rfl rfl
theorem wX6_line_44n : E_ d mX6_line 44 [.val .null] st h = E_ d mX6_line 45 [.val .null] (.null :: st) h := e_go dX6_line_44 rfl rfl
theorem wX6_line_45 : E_ d mX6_line 45 ls st h = E_ d mX6_line 47 ls (.ref 6 :: st) h := e_go dX6_line_45 rfl rfl
theorem wX6_line_47 (ht : oT h a = 8) : E_ (d + 1) mX6_line 47 ls [.ref r1, .ref a] h = (C_ d mX6_takes [.ref a, .ref r1] h).bind fun r => E_ (d + 1) mX6_line 50 ls (xpu r.1 []) r.2 := e_vir dX6_line_47 rfl rfl rfl rfl rfl rfl (Nat.le_of_ble_eq_true rfl) (Nat.le_of_ble_eq_true rfl) ht
theorem wX6_line_50 : E_ d mX6_line 50 ls (.int x :: st) h = if x = 0 then E_ d mX6_line 70 ls st h else E_ d mX6_line 53 ls st h := e_zeq dX6_line_50 rfl rfl
theorem wX6_line_53 : E_ d mX6_line 53 [.val (.ref a)] st h = E_ d mX6_line 54 [.val (.ref a)] (.ref a :: st) h := e_go dX6_line_53 rfl rfl
theorem wX6_line_53q : E_ d mX6_line 53 [.val (va_rf q)] st h = E_ d mX6_line 54 [.val (va_rf q)] (va_rf q :: st) h := by cases q <;> exact e_go dX6_line_53 rfl rfl
theorem wX6_line_53n : E_ d mX6_line 53 [.val .null] st h = E_ d mX6_line 54 [.val .null] (.null :: st) h := e_go dX6_line_53 rfl rfl
theorem wX6_line_54 (ht : oT h a = 8) : E_ d mX6_line 54 ls (.ref a :: st) h = E_ d mX6_line 57 ls (va_rf (oR h a 1) :: st) h := e_getR0 dX6_line_54 rfl rfl ht
theorem wX6_line_57 : E_ d mX6_line 57 [.val (.ref a)] st h = E_ d mX6_line 58 [.val (.ref a)] (.ref a :: st) h := e_go dX6_line_57 rfl rfl
theorem wX6_line_57q : E_ d mX6_line 57 [.val (va_rf q)] st h = E_ d mX6_line 58 [.val (va_rf q)] (va_rf q :: st) h := by cases q <;> exact e_go dX6_line_57 rfl rfl
theorem wX6_line_57n : E_ d mX6_line 57 [.val .null] st h = E_ d mX6_line 58 [.val .null] (.null :: st) h := e_go dX6_line_57 rfl rfl
theorem wX6_line_58 : E_ d mX6_line 58 ls st h = E_ d mX6_line 59 ls (.int (nI 0) :: st) h := e_iconst dX6_line_58 kiconst_0 rfl
theorem wX6_line_59 : E_ d mX6_line 59 ls st h = E_ d mX6_line 61 ls (.int (nI 30) :: st) h := e_bipush dX6_line_59 kbipush_30 rfl
theorem wX6_line_61 (ht : oT h a = 8) : E_ (d + 1) mX6_line 61 ls [.int x2, .int x1, .ref a, .ref r1] h = (C_ d mX6_number [.ref a, .int x1, .int x2] h).bind fun r => E_ (d + 1) mX6_line 64 ls (xpu r.1 [.ref r1]) r.2 := e_vir dX6_line_61 rfl rfl rfl rfl rfl rfl (Nat.le_of_ble_eq_true rfl) (Nat.le_of_ble_eq_true rfl) ht
theorem wX6_line_64 (ht : oT h a = 3) : E_ d mX6_line 64 ls (.int x :: .ref a :: st) h = E_ d mX6_line 67 ls st (pI h a (va_up (oI h a) 3 x)) := e_putI dX6_line_64 rfl rfl ht
theorem wX6_line_67 : E_ d mX6_line 67 ls st h = E_ d mX6_line 153 ls st h := e_gt dX6_line_67 rfl
theorem wX6_line_70 : E_ d mX6_line 70 [.val (.ref a)] st h = E_ d mX6_line 71 [.val (.ref a)] (.ref a :: st) h := e_go dX6_line_70 rfl rfl
theorem wX6_line_70q : E_ d mX6_line 70 [.val (va_rf q)] st h = E_ d mX6_line 71 [.val (va_rf q)] (va_rf q :: st) h := by cases q <;> exact e_go dX6_line_70 rfl rfl
theorem wX6_line_70n : E_ d mX6_line 70 [.val .null] st h = E_ d mX6_line 71 [.val .null] (.null :: st) h := e_go dX6_line_70 rfl rfl
theorem wX6_line_71 : E_ d mX6_line 71 ls st h = E_ d mX6_line 73 ls (.ref 7 :: st) h := e_go dX6_line_71 rfl rfl
theorem wX6_line_73 (ht : oT h a = 8) : E_ (d + 1) mX6_line 73 ls [.ref r1, .ref a] h = (C_ d mX6_takes [.ref a, .ref r1] h).bind fun r => E_ (d + 1) mX6_line 76 ls (xpu r.1 []) r.2 := e_vir dX6_line_73 rfl rfl rfl rfl rfl rfl (Nat.le_of_ble_eq_true rfl) (Nat.le_of_ble_eq_true rfl) ht
theorem wX6_line_76 : E_ d mX6_line 76 ls (.int x :: st) h = if x = 0 then E_ d mX6_line 96 ls st h else E_ d mX6_line 79 ls st h := e_zeq dX6_line_76 rfl rfl
theorem wX6_line_79 : E_ d mX6_line 79 [.val (.ref a)] st h = E_ d mX6_line 80 [.val (.ref a)] (.ref a :: st) h := e_go dX6_line_79 rfl rfl
theorem wX6_line_79q : E_ d mX6_line 79 [.val (va_rf q)] st h = E_ d mX6_line 80 [.val (va_rf q)] (va_rf q :: st) h := by cases q <;> exact e_go dX6_line_79 rfl rfl
theorem wX6_line_79n : E_ d mX6_line 79 [.val .null] st h = E_ d mX6_line 80 [.val .null] (.null :: st) h := e_go dX6_line_79 rfl rfl
theorem wX6_line_80 (ht : oT h a = 8) : E_ d mX6_line 80 ls (.ref a :: st) h = E_ d mX6_line 83 ls (va_rf (oR h a 1) :: st) h := e_getR0 dX6_line_80 rfl rfl ht
theorem wX6_line_83 : E_ d mX6_line 83 [.val (.ref a)] st h = E_ d mX6_line 84 [.val (.ref a)] (.ref a :: st) h := e_go dX6_line_83 rfl rfl
theorem wX6_line_83q : E_ d mX6_line 83 [.val (va_rf q)] st h = E_ d mX6_line 84 [.val (va_rf q)] (va_rf q :: st) h := by cases q <;> exact e_go dX6_line_83 rfl rfl
theorem wX6_line_83n : E_ d mX6_line 83 [.val .null] st h = E_ d mX6_line 84 [.val .null] (.null :: st) h := e_go dX6_line_83 rfl rfl
theorem wX6_line_84 : E_ d mX6_line 84 ls st h = E_ d mX6_line 85 ls (.int (nI 0) :: st) h := e_iconst dX6_line_84 kiconst_0 rfl
theorem wX6_line_85 : E_ d mX6_line 85 ls st h = E_ d mX6_line 87 ls (.int (nI 20) :: st) h := e_bipush dX6_line_85 kbipush_20 rfl
theorem wX6_line_87 (ht : oT h a = 8) : E_ (d + 1) mX6_line 87 ls [.int x2, .int x1, .ref a, .ref r1] h = (C_ d mX6_number [.ref a, .int x1, .int x2] h).bind fun r => E_ (d + 1) mX6_line 90 ls (xpu r.1 [.ref r1]) r.2 := e_vir dX6_line_87 rfl rfl rfl rfl rfl rfl (Nat.le_of_ble_eq_true rfl) (Nat.le_of_ble_eq_true rfl) ht
theorem wX6_line_90 (ht : oT h a = 3) : E_ d mX6_line 90 ls (.int x :: .ref a :: st) h = E_ d mX6_line 93 ls st (pI h a (va_up (oI h a) 4 x)) := e_putI dX6_line_90 rfl rfl ht
theorem wX6_line_93 : E_ d mX6_line 93 ls st h = E_ d mX6_line 153 ls st h := e_gt dX6_line_93 rfl
theorem wX6_line_96 : E_ d mX6_line 96 [.val (.ref a)] st h = E_ d mX6_line 97 [.val (.ref a)] (.ref a :: st) h := e_go dX6_line_96 rfl rfl
theorem wX6_line_96q : E_ d mX6_line 96 [.val (va_rf q)] st h = E_ d mX6_line 97 [.val (va_rf q)] (va_rf q :: st) h := by cases q <;> exact e_go dX6_line_96 rfl rfl
theorem wX6_line_96n : E_ d mX6_line 96 [.val .null] st h = E_ d mX6_line 97 [.val .null] (.null :: st) h := e_go dX6_line_96 rfl rfl
theorem wX6_line_97 : E_ d mX6_line 97 ls st h = E_ d mX6_line 99 ls (.ref 8 :: st) h := e_go dX6_line_97 rfl rfl
theorem wX6_line_99 (ht : oT h a = 8) : E_ (d + 1) mX6_line 99 ls [.ref r1, .ref a] h = (C_ d mX6_takes [.ref a, .ref r1] h).bind fun r => E_ (d + 1) mX6_line 102 ls (xpu r.1 []) r.2 := e_vir dX6_line_99 rfl rfl rfl rfl rfl rfl (Nat.le_of_ble_eq_true rfl) (Nat.le_of_ble_eq_true rfl) ht
theorem wX6_line_102 : E_ d mX6_line 102 ls (.int x :: st) h = if x = 0 then E_ d mX6_line 122 ls st h else E_ d mX6_line 105 ls st h := e_zeq dX6_line_102 rfl rfl
theorem wX6_line_105 : E_ d mX6_line 105 [.val (.ref a)] st h = E_ d mX6_line 106 [.val (.ref a)] (.ref a :: st) h := e_go dX6_line_105 rfl rfl
theorem wX6_line_105q : E_ d mX6_line 105 [.val (va_rf q)] st h = E_ d mX6_line 106 [.val (va_rf q)] (va_rf q :: st) h := by cases q <;> exact e_go dX6_line_105 rfl rfl
theorem wX6_line_105n : E_ d mX6_line 105 [.val .null] st h = E_ d mX6_line 106 [.val .null] (.null :: st) h := e_go dX6_line_105 rfl rfl
theorem wX6_line_106 (ht : oT h a = 8) : E_ d mX6_line 106 ls (.ref a :: st) h = E_ d mX6_line 109 ls (va_rf (oR h a 1) :: st) h := e_getR0 dX6_line_106 rfl rfl ht
theorem wX6_line_109 : E_ d mX6_line 109 [.val (.ref a)] st h = E_ d mX6_line 110 [.val (.ref a)] (.ref a :: st) h := e_go dX6_line_109 rfl rfl
theorem wX6_line_109q : E_ d mX6_line 109 [.val (va_rf q)] st h = E_ d mX6_line 110 [.val (va_rf q)] (va_rf q :: st) h := by cases q <;> exact e_go dX6_line_109 rfl rfl
theorem wX6_line_109n : E_ d mX6_line 109 [.val .null] st h = E_ d mX6_line 110 [.val .null] (.null :: st) h := e_go dX6_line_109 rfl rfl
theorem wX6_line_110 : E_ d mX6_line 110 ls st h = E_ d mX6_line 111 ls (.int (nI 0) :: st) h := e_iconst dX6_line_110 kiconst_0 rfl
theorem wX6_line_111 : E_ d mX6_line 111 ls st h = E_ d mX6_line 113 ls (.int (nI 60) :: st) h := e_bipush dX6_line_111 kbipush_60 rfl
theorem wX6_line_113 (ht : oT h a = 8) : E_ (d + 1) mX6_line 113 ls [.int x2, .int x1, .ref a, .ref r1] h = (C_ d mX6_number [.ref a, .int x1, .int x2] h).bind fun r => E_ (d + 1) mX6_line 116 ls (xpu r.1 [.ref r1]) r.2 := e_vir dX6_line_113 rfl rfl rfl rfl rfl rfl (Nat.le_of_ble_eq_true rfl) (Nat.le_of_ble_eq_true rfl) ht
theorem wX6_line_116 (ht : oT h a = 3) : E_ d mX6_line 116 ls (.int x :: .ref a :: st) h = E_ d mX6_line 119 ls st (pI h a (va_up (oI h a) 5 x)) := e_putI dX6_line_116 rfl rfl ht
theorem wX6_line_119 : E_ d mX6_line 119 ls st h = E_ d mX6_line 153 ls st h := e_gt dX6_line_119 rfl
theorem wX6_line_122 : E_ d mX6_line 122 [.val (.ref a)] st h = E_ d mX6_line 123 [.val (.ref a)] (.ref a :: st) h := e_go dX6_line_122 rfl rfl
theorem wX6_line_122q : E_ d mX6_line 122 [.val (va_rf q)] st h = E_ d mX6_line 123 [.val (va_rf q)] (va_rf q :: st) h := by cases q <;> exact e_go dX6_line_122 rfl rfl
theorem wX6_line_122n : E_ d mX6_line 122 [.val .null] st h = E_ d mX6_line 123 [.val .null] (.null :: st) h := e_go dX6_line_122 rfl rfl
theorem wX6_line_123 : E_ d mX6_line 123 ls st h = E_ d mX6_line 125 ls (.ref 9 :: st) h := e_go dX6_line_123 rfl rfl
theorem wX6_line_125 (ht : oT h a = 8) : E_ (d + 1) mX6_line 125 ls [.ref r1, .ref a] h = (C_ d mX6_takes [.ref a, .ref r1] h).bind fun r => E_ (d + 1) mX6_line 128 ls (xpu r.1 []) r.2 := e_vir dX6_line_125 rfl rfl rfl rfl rfl rfl (Nat.le_of_ble_eq_true rfl) (Nat.le_of_ble_eq_true rfl) ht
theorem wX6_line_128 : E_ d mX6_line 128 ls (.int x :: st) h = if x = 0 then E_ d mX6_line 149 ls st h else E_ d mX6_line 131 ls st h := e_zeq dX6_line_128 rfl rfl
theorem wX6_line_131 : E_ d mX6_line 131 [.val (.ref a)] st h = E_ d mX6_line 132 [.val (.ref a)] (.ref a :: st) h := e_go dX6_line_131 rfl rfl
theorem wX6_line_131q : E_ d mX6_line 131 [.val (va_rf q)] st h = E_ d mX6_line 132 [.val (va_rf q)] (va_rf q :: st) h := by cases q <;> exact e_go dX6_line_131 rfl rfl
theorem wX6_line_131n : E_ d mX6_line 131 [.val .null] st h = E_ d mX6_line 132 [.val .null] (.null :: st) h := e_go dX6_line_131 rfl rfl
theorem wX6_line_132 (ht : oT h a = 8) : E_ d mX6_line 132 ls (.ref a :: st) h = E_ d mX6_line 135 ls (va_rf (oR h a 1) :: st) h := e_getR0 dX6_line_132 rfl rfl ht
theorem wX6_line_135 : E_ d mX6_line 135 [.val (.ref a)] st h = E_ d mX6_line 136 [.val (.ref a)] (.ref a :: st) h := e_go dX6_line_135 rfl rfl
theorem wX6_line_135q : E_ d mX6_line 135 [.val (va_rf q)] st h = E_ d mX6_line 136 [.val (va_rf q)] (va_rf q :: st) h := by cases q <;> exact e_go dX6_line_135 rfl rfl
theorem wX6_line_135n : E_ d mX6_line 135 [.val .null] st h = E_ d mX6_line 136 [.val .null] (.null :: st) h := e_go dX6_line_135 rfl rfl
theorem wX6_line_136 : E_ d mX6_line 136 ls st h = E_ d mX6_line 137 ls (.int (nI 1) :: st) h := e_iconst dX6_line_136 kiconst_1 rfl
theorem wX6_line_137 : E_ d mX6_line 137 ls st h = E_ d mX6_line 140 ls (.int (nI 200) :: st) h := e_sipush dX6_line_137 ksipush_200 rfl
theorem wX6_line_140 (ht : oT h a = 8) : E_ (d + 1) mX6_line 140 ls [.int x2, .int x1, .ref a, .ref r1] h = (C_ d mX6_number [.ref a, .int x1, .int x2] h).bind fun r => E_ (d + 1) mX6_line 143 ls (xpu r.1 [.ref r1]) r.2 := e_vir dX6_line_140 rfl rfl rfl rfl rfl rfl (Nat.le_of_ble_eq_true rfl) (Nat.le_of_ble_eq_true rfl) ht
theorem wX6_line_143 (ht : oT h a = 3) : E_ d mX6_line 143 ls (.int x :: .ref a :: st) h = E_ d mX6_line 146 ls st (pI h a (va_up (oI h a) 6 x)) := e_putI dX6_line_143 rfl rfl ht
theorem wX6_line_146 : E_ d mX6_line 146 ls st h = E_ d mX6_line 153 ls st h := e_gt dX6_line_146 rfl
theorem wX6_line_149 : E_ d mX6_line 149 [.val (.ref a)] st h = E_ d mX6_line 150 [.val (.ref a)] (.ref a :: st) h := e_go dX6_line_149 rfl rfl
theorem wX6_line_149q : E_ d mX6_line 149 [.val (va_rf q)] st h = E_ d mX6_line 150 [.val (va_rf q)] (va_rf q :: st) h := by cases q <;> exact e_go dX6_line_149 rfl rfl
theorem wX6_line_149n : E_ d mX6_line 149 [.val .null] st h = E_ d mX6_line 150 [.val .null] (.null :: st) h := e_go dX6_line_149 rfl rfl
theorem wX6_line_150 (ht : oT h a = 8) : E_ (d + 1) mX6_line 150 ls [.ref a] h = (C_ d mX6_traitLine [.ref a] h).bind fun r => E_ (d + 1) mX6_line 153 ls (xpu r.1 []) r.2 := e_vir dX6_line_150 rfl rfl rfl rfl rfl rfl (Nat.le_of_ble_eq_true rfl) (Nat.le_of_ble_eq_true rfl) ht
theorem wX6_line_153 : E_ d mX6_line 153 ls [] h = some (none, h) := e_rt dX6_line_153 rfl rfl
/-! FootOut$Reader.is -/
theorem wX6_is_0 : E_ d mX6_is 0 [.val (.ref a), s1, s2] st h = E_ d mX6_is 1 [.val (.ref a), s1, s2] (.ref a :: st) h := e_go dX6_is_0 rfl rfl
theorem wX6_is_0q : E_ d mX6_is 0 [.val (va_rf q), s1, s2] st h = E_ d mX6_is 1 [.val (va_rf q), s1, s2] (va_rf q :: st) h := by cases q <;> exact e_go dX6_is_0 rfl rfl
theorem wX6_is_0n : E_ d mX6_is 0 [.val .null, s1, s2] st h = E_ d mX6_is 1 [.val .null, s1, s2] (.null :: st) h := e_go dX6_is_0 rfl rfl
theorem wX6_is_1 (ht : oT h a = 8) : E_ d mX6_is 1 ls (.ref a :: st) h = E_ d mX6_is 4 ls (.int (oI h a 8) :: st) h := e_getI dX6_is_1 rfl rfl ht
theorem wX6_is_4 : E_ d mX6_is 4 ls (.int x :: st) h = if x = 0 then E_ d mX6_is 7 ls st h else E_ d mX6_is 31 ls st h := e_zne dX6_is_4 rfl rfl
theorem wX6_is_7 : E_ d mX6_is 7 [.val (.ref a), s1, s2] st h = E_ d mX6_is 8 [.val (.ref a), s1, s2] (.ref a :: st) h := e_go dX6_is_7 rfl rfl
theorem wX6_is_7q : E_ d mX6_is 7 [.val (va_rf q), s1, s2] st h = E_ d mX6_is 8 [.val (va_rf q), s1, s2] (va_rf q :: st) h := by cases q <;> exact e_go dX6_is_7 rfl rfl
theorem wX6_is_7n : E_ d mX6_is 7 [.val .null, s1, s2] st h = E_ d mX6_is 8 [.val .null, s1, s2] (.null :: st) h := e_go dX6_is_7 rfl rfl
theorem wX6_is_8 (ht : oT h a = 8) : E_ d mX6_is 8 ls (.ref a :: st) h = E_ d mX6_is 11 ls (.int (oI h a 5) :: st) h := e_getI dX6_is_8 rfl rfl ht
theorem wX6_is_11 : E_ d mX6_is 11 ls st h = E_ d mX6_is 12 ls (.int (nI 1) :: st) h := e_iconst dX6_is_11 kiconst_1 rfl
theorem wX6_is_12 : E_ d mX6_is 12 ls (.int y :: .int x :: st) h = if x = y then E_ d mX6_is 15 ls st h else E_ d mX6_is 31 ls st h := e_ine dX6_is_12 rfl rfl
theorem wX6_is_15 : E_ d mX6_is 15 [.val (.ref a), s1, s2] st h = E_ d mX6_is 16 [.val (.ref a), s1, s2] (.ref a :: st) h := e_go dX6_is_15 rfl rfl
theorem wX6_is_15q : E_ d mX6_is 15 [.val (va_rf q), s1, s2] st h = E_ d mX6_is 16 [.val (va_rf q), s1, s2] (va_rf q :: st) h := by cases q <;> exact e_go dX6_is_15 rfl rfl
theorem wX6_is_15n : E_ d mX6_is 15 [.val .null, s1, s2] st h = E_ d mX6_is 16 [.val .null, s1, s2] (.null :: st) h := e_go dX6_is_15 rfl rfl
theorem wX6_is_16 (ht : oT h a = 8) : E_ d mX6_is 16 ls (.ref a :: st) h = E_ d mX6_is 19 ls (.int (oI h a 3) :: st) h := e_getI dX6_is_16 rfl rfl ht
theorem wX6_is_19 : E_ d mX6_is 19 [.val (.ref a), s1, s2] st h = E_ d mX6_is 20 [.val (.ref a), s1, s2] (.ref a :: st) h := e_go dX6_is_19 rfl rfl
theorem wX6_is_19q : E_ d mX6_is 19 [.val (va_rf q), s1, s2] st h = E_ d mX6_is 20 [.val (va_rf q), s1, s2] (va_rf q :: st) h := by cases q <;> exact e_go dX6_is_19 rfl rfl
theorem wX6_is_19n : E_ d mX6_is 19 [.val .null, s1, s2] st h = E_ d mX6_is 20 [.val .null, s1, s2] (.null :: st) h := e_go dX6_is_19 rfl rfl
theorem wX6_is_20 (ht : oT h a = 8) : E_ d mX6_is 20 ls (.ref a :: st) h = E_ d mX6_is 23 ls (.int (oI h a 4) :: st) h := e_getI dX6_is_20 rfl rfl ht
theorem wX6_is_23 : E_ d mX6_is 23 ls (.int y :: .int x :: st) h = E_ d mX6_is 24 ls (.int (x - y) :: st) h := e_go dX6_is_23 rfl rfl
theorem wX6_is_24 : E_ d mX6_is 24 [s0, .val (.ref a), s2] st h = E_ d mX6_is 25 [s0, .val (.ref a), s2] (.ref a :: st) h := e_go dX6_is_24 rfl rfl
theorem wX6_is_24q : E_ d mX6_is 24 [s0, .val (va_rf q), s2] st h = E_ d mX6_is 25 [s0, .val (va_rf q), s2] (va_rf q :: st) h := by cases q <;> exact e_go dX6_is_24 rfl rfl
theorem wX6_is_24n : E_ d mX6_is 24 [s0, .val .null, s2] st h = E_ d mX6_is 25 [s0, .val .null, s2] (.null :: st) h := e_go dX6_is_24 rfl rfl
theorem wX6_is_25 (ht : oT h a = 38) : E_ d mX6_is 25 ls [.ref a, .int x1] h = (xP 0 [.ref a] h).bind fun r => E_ d mX6_is 28 ls (xpu r.1 [.int x1]) r.2 := e_virP dX6_is_25 rfl rfl rfl rfl rfl rfl (Nat.le_of_ble_eq_true rfl) ht
theorem wX6_is_28 : E_ d mX6_is 28 ls (.int y :: .int x :: st) h = if x = y then E_ d mX6_is 33 ls st h else E_ d mX6_is 31 ls st h := e_ieq dX6_is_28 rfl rfl
theorem wX6_is_31 : E_ d mX6_is 31 ls st h = E_ d mX6_is 32 ls (.int (nI 0) :: st) h := e_iconst dX6_is_31 kiconst_0 rfl
theorem wX6_is_32 (hx : x = 0 ∨ x = 1) : E_ d mX6_is 32 ls [.int x] h = some (some (.int x), h) := e_rtZ dX6_is_32 rfl hx
theorem wX6_is_33 : E_ d mX6_is 33 ls st h = E_ d mX6_is 34 ls (.int (nI 0) :: st) h := e_iconst dX6_is_33 kiconst_0 rfl
theorem wX6_is_34 : E_ d mX6_is 34 [s0, s1, s2] (.int x :: st) h = E_ d mX6_is 35 [s0, xk s1, .val (.int x)] st h := e_go dX6_is_34 rfl rfl
theorem wX6_is_35 : E_ d mX6_is 35 [s0, s1, .val (.int x)] st h = E_ d mX6_is 36 [s0, s1, .val (.int x)] (.int x :: st) h := e_go dX6_is_35 rfl rfl
theorem wX6_is_36 : E_ d mX6_is 36 [s0, .val (.ref a), s2] st h = E_ d mX6_is 37 [s0, .val (.ref a), s2] (.ref a :: st) h := e_go dX6_is_36 rfl rfl
theorem wX6_is_36q : E_ d mX6_is 36 [s0, .val (va_rf q), s2] st h = E_ d mX6_is 37 [s0, .val (va_rf q), s2] (va_rf q :: st) h := by cases q <;> exact e_go dX6_is_36 rfl rfl
theorem wX6_is_36n : E_ d mX6_is 36 [s0, .val .null, s2] st h = E_ d mX6_is 37 [s0, .val .null, s2] (.null :: st) h := e_go dX6_is_36 rfl rfl
theorem wX6_is_37 (ht : oT h a = 38) : E_ d mX6_is 37 ls [.ref a, .int x1] h = (xP 0 [.ref a] h).bind fun r => E_ d mX6_is 40 ls (xpu r.1 [.int x1]) r.2 := e_virP dX6_is_37 rfl rfl rfl rfl rfl rfl (Nat.le_of_ble_eq_true rfl) ht
theorem wX6_is_40 : E_ d mX6_is 40 ls (.int y :: .int x :: st) h = if x < y then E_ d mX6_is 43 ls st h else E_ d mX6_is 69 ls st h := e_ige dX6_is_40 rfl rfl
theorem wX6_is_43 : E_ d mX6_is 43 [.val (.ref a), s1, s2] st h = E_ d mX6_is 44 [.val (.ref a), s1, s2] (.ref a :: st) h := e_go dX6_is_43 rfl rfl
theorem wX6_is_43q : E_ d mX6_is 43 [.val (va_rf q), s1, s2] st h = E_ d mX6_is 44 [.val (va_rf q), s1, s2] (va_rf q :: st) h := by cases q <;> exact e_go dX6_is_43 rfl rfl
theorem wX6_is_43n : E_ d mX6_is 43 [.val .null, s1, s2] st h = E_ d mX6_is 44 [.val .null, s1, s2] (.null :: st) h := e_go dX6_is_43 rfl rfl
theorem wX6_is_44 : E_ d mX6_is 44 [.val (.ref a), s1, s2] st h = E_ d mX6_is 45 [.val (.ref a), s1, s2] (.ref a :: st) h := e_go dX6_is_44 rfl rfl
theorem wX6_is_44q : E_ d mX6_is 44 [.val (va_rf q), s1, s2] st h = E_ d mX6_is 45 [.val (va_rf q), s1, s2] (va_rf q :: st) h := by cases q <;> exact e_go dX6_is_44 rfl rfl
theorem wX6_is_44n : E_ d mX6_is 44 [.val .null, s1, s2] st h = E_ d mX6_is 45 [.val .null, s1, s2] (.null :: st) h := e_go dX6_is_44 rfl rfl
theorem wX6_is_45 (ht : oT h a = 8) : E_ d mX6_is 45 ls (.ref a :: st) h = E_ d mX6_is 48 ls (.int (oI h a 4) :: st) h := e_getI dX6_is_45 rfl rfl ht
theorem wX6_is_48 : E_ d mX6_is 48 [s0, s1, .val (.int x)] st h = E_ d mX6_is 49 [s0, s1, .val (.int x)] (.int x :: st) h := e_go dX6_is_48 rfl rfl
theorem wX6_is_49 : E_ d mX6_is 49 ls (.int y :: .int x :: st) h = E_ d mX6_is 50 ls (.int (x + y) :: st) h := e_go dX6_is_49 rfl rfl
theorem wX6_is_50 (ht : oT h a = 8) : E_ (d + 1) mX6_is 50 ls [.int x1, .ref a] h = (C_ d mX6_see [.ref a, .int x1] h).bind fun r => E_ (d + 1) mX6_is 53 ls (xpu r.1 []) r.2 := e_vir dX6_is_50 rfl rfl rfl rfl rfl rfl (Nat.le_of_ble_eq_true rfl) (Nat.le_of_ble_eq_true rfl) ht
theorem wX6_is_53 : E_ d mX6_is 53 [s0, .val (.ref a), s2] st h = E_ d mX6_is 54 [s0, .val (.ref a), s2] (.ref a :: st) h := e_go dX6_is_53 rfl rfl
theorem wX6_is_53q : E_ d mX6_is 53 [s0, .val (va_rf q), s2] st h = E_ d mX6_is 54 [s0, .val (va_rf q), s2] (va_rf q :: st) h := by cases q <;> exact e_go dX6_is_53 rfl rfl
theorem wX6_is_53n : E_ d mX6_is 53 [s0, .val .null, s2] st h = E_ d mX6_is 54 [s0, .val .null, s2] (.null :: st) h := e_go dX6_is_53 rfl rfl
theorem wX6_is_54 : E_ d mX6_is 54 [s0, s1, .val (.int x)] st h = E_ d mX6_is 55 [s0, s1, .val (.int x)] (.int x :: st) h := e_go dX6_is_54 rfl rfl
theorem wX6_is_55 (ht : oT h a = 38) : E_ d mX6_is 55 ls [.int x1, .ref a, .int x2] h = (xP 1 [.ref a, .int x1] h).bind fun r => E_ d mX6_is 58 ls (xpu r.1 [.int x2]) r.2 := e_virP dX6_is_55 rfl rfl rfl rfl rfl rfl (Nat.le_of_ble_eq_true rfl) ht
theorem wX6_is_58 : E_ d mX6_is 58 ls (.int y :: .int x :: st) h = if x = y then E_ d mX6_is 63 ls st h else E_ d mX6_is 61 ls st h := e_ieq dX6_is_58 rfl rfl
theorem wX6_is_61 : E_ d mX6_is 61 ls st h = E_ d mX6_is 62 ls (.int (nI 0) :: st) h := e_iconst dX6_is_61 kiconst_0 rfl
theorem wX6_is_62 (hx : x = 0 ∨ x = 1) : E_ d mX6_is 62 ls [.int x] h = some (some (.int x), h) := e_rtZ dX6_is_62 rfl hx
theorem wX6_is_63 : E_ d mX6_is 63 [s0, s1, .val (.int x)] st h = E_ d mX6_is 66 [s0, xk s1, .val (.int (x + nI 1))] st h := by rw [← kiinc_1]; exact e_go dX6_is_63 rfl rfl
theorem wX6_is_66 : E_ d mX6_is 66 ls st h = E_ d mX6_is 35 ls st h := e_gt dX6_is_66 rfl
theorem wX6_is_69 : E_ d mX6_is 69 ls st h = E_ d mX6_is 70 ls (.int (nI 1) :: st) h := e_iconst dX6_is_69 kiconst_1 rfl
theorem wX6_is_70 (hx : x = 0 ∨ x = 1) : E_ d mX6_is 70 ls [.int x] h = some (some (.int x), h) := e_rtZ dX6_is_70 rfl hx
/-! FootOut$Reader.car -/
theorem wX6_car_0 : E_ d mX6_car 0 [.val (.ref a), s1, s2, s3, s4] st h = E_ d mX6_car 1 [.val (.ref a), s1, s2, s3, s4] (.ref a :: st) h := e_go dX6_car_0 rfl rfl
theorem wX6_car_0q : E_ d mX6_car 0 [.val (va_rf q), s1, s2, s3, s4] st h = E_ d mX6_car 1 [.val (va_rf q), s1, s2, s3, s4] (va_rf q :: st) h := by cases q <;> exact e_go dX6_car_0 rfl rfl
theorem wX6_car_0n : E_ d mX6_car 0 [.val .null, s1, s2, s3, s4] st h = E_ d mX6_car 1 [.val .null, s1, s2, s3, s4] (.null :: st) h := e_go dX6_car_0 rfl rfl
theorem wX6_car_1 : E_ d mX6_car 1 [.val (.ref a), s1, s2, s3, s4] st h = E_ d mX6_car 2 [.val (.ref a), s1, s2, s3, s4] (.ref a :: st) h := e_go dX6_car_1 rfl rfl
theorem wX6_car_1q : E_ d mX6_car 1 [.val (va_rf q), s1, s2, s3, s4] st h = E_ d mX6_car 2 [.val (va_rf q), s1, s2, s3, s4] (va_rf q :: st) h := by cases q <;> exact e_go dX6_car_1 rfl rfl
theorem wX6_car_1n : E_ d mX6_car 1 [.val .null, s1, s2, s3, s4] st h = E_ d mX6_car 2 [.val .null, s1, s2, s3, s4] (.null :: st) h := e_go dX6_car_1 rfl rfl
theorem wX6_car_2 (ht : oT h a = 8) : E_ d mX6_car 2 ls (.ref a :: st) h = E_ d mX6_car 5 ls (va_rf (oR h a 1) :: st) h := e_getR0 dX6_car_2 rfl rfl ht
theorem wX6_car_5 (ht : oT h a = 3) : E_ d mX6_car 5 ls (.ref a :: st) h = E_ d mX6_car 8 ls (va_rf (oR h a 0) :: st) h := e_getR0 dX6_car_5 rfl rfl ht
theorem wX6_car_8 (ht : oT h a = 4) : E_ (d + 1) mX6_car 8 ls [.ref a, .ref r1] h = (C_ d mJ2_size [.ref a] h).bind fun r => E_ (d + 1) mX6_car 11 ls (xpu r.1 [.ref r1]) r.2 := e_vir dX6_car_8 rfl rfl rfl rfl rfl rfl (Nat.le_of_ble_eq_true rfl) (Nat.le_of_ble_eq_true rfl) ht
theorem wX6_car_11 : E_ d mX6_car 11 ls st h = E_ d mX6_car 13 ls (.int (nI 8) :: st) h := e_bipush dX6_car_11 kbipush_8 rfl
theorem wX6_car_13 : E_ d mX6_car 13 ls (.int y :: .int x :: st) h = if x = y then E_ d mX6_car 16 ls st h else E_ d mX6_car 20 ls st h := e_ine dX6_car_13 rfl rfl
theorem wX6_car_16 : E_ d mX6_car 16 ls st h = E_ d mX6_car 17 ls (.int (nI 1) :: st) h := e_iconst dX6_car_16 kiconst_1 rfl
theorem wX6_car_17 : E_ d mX6_car 17 ls st h = E_ d mX6_car 21 ls st h := e_gt dX6_car_17 rfl
theorem wX6_car_20 : E_ d mX6_car 20 ls st h = E_ d mX6_car 21 ls (.int (nI 0) :: st) h := e_iconst dX6_car_20 kiconst_0 rfl
theorem wX6_car_21 (ht : oT h a = 8) : E_ (d + 1) mX6_car 21 ls [.int x1, .ref a] h = (C_ d mX6_space [.ref a, .int x1] h).bind fun r => E_ (d + 1) mX6_car 24 ls (xpu r.1 []) r.2 := e_vir dX6_car_21 rfl rfl rfl rfl rfl rfl (Nat.le_of_ble_eq_true rfl) (Nat.le_of_ble_eq_true rfl) ht
theorem wX6_car_24 : E_ d mX6_car 24 [.val (.ref a), s1, s2, s3, s4] st h = E_ d mX6_car 25 [.val (.ref a), s1, s2, s3, s4] (.ref a :: st) h := e_go dX6_car_24 rfl rfl
theorem wX6_car_24q : E_ d mX6_car 24 [.val (va_rf q), s1, s2, s3, s4] st h = E_ d mX6_car 25 [.val (va_rf q), s1, s2, s3, s4] (va_rf q :: st) h := by cases q <;> exact e_go dX6_car_24 rfl rfl
theorem wX6_car_24n : E_ d mX6_car 24 [.val .null, s1, s2, s3, s4] st h = E_ d mX6_car 25 [.val .null, s1, s2, s3, s4] (.null :: st) h := e_go dX6_car_24 rfl rfl
theorem wX6_car_25 : E_ d mX6_car 25 ls st h = E_ d mX6_car 26 ls (.int (nI 0) :: st) h := e_iconst dX6_car_25 kiconst_0 rfl
theorem wX6_car_26 : E_ d mX6_car 26 [.val (.ref a), s1, s2, s3, s4] st h = E_ d mX6_car 27 [.val (.ref a), s1, s2, s3, s4] (.ref a :: st) h := e_go dX6_car_26 rfl rfl
theorem wX6_car_26q : E_ d mX6_car 26 [.val (va_rf q), s1, s2, s3, s4] st h = E_ d mX6_car 27 [.val (va_rf q), s1, s2, s3, s4] (va_rf q :: st) h := by cases q <;> exact e_go dX6_car_26 rfl rfl
theorem wX6_car_26n : E_ d mX6_car 26 [.val .null, s1, s2, s3, s4] st h = E_ d mX6_car 27 [.val .null, s1, s2, s3, s4] (.null :: st) h := e_go dX6_car_26 rfl rfl
theorem wX6_car_27 (ht : oT h a = 8) : E_ d mX6_car 27 ls (.ref a :: st) h = E_ d mX6_car 30 ls (va_rf (oR h a 1) :: st) h := e_getR0 dX6_car_27 rfl rfl ht
theorem wX6_car_30 (ht : oT h a = 3) : E_ d mX6_car 30 ls (.ref a :: st) h = E_ d mX6_car 33 ls (.int (oI h a 1) :: st) h := e_getI dX6_car_30 rfl rfl ht
theorem wX6_car_33 : E_ d mX6_car 33 ls st h = E_ d mX6_car 34 ls (.int (nI 1) :: st) h := e_iconst dX6_car_33 kiconst_1 rfl
theorem wX6_car_34 : E_ d mX6_car 34 ls (.int y :: .int x :: st) h = E_ d mX6_car 35 ls (.int (x - y) :: st) h := e_go dX6_car_34 rfl rfl
theorem wX6_car_35 (ht : oT h a = 8) : E_ (d + 1) mX6_car 35 ls [.int x2, .int x1, .ref a] h = (C_ d mX6_number [.ref a, .int x1, .int x2] h).bind fun r => E_ (d + 1) mX6_car 38 ls (xpu r.1 []) r.2 := e_vir dX6_car_35 rfl rfl rfl rfl rfl rfl (Nat.le_of_ble_eq_true rfl) (Nat.le_of_ble_eq_true rfl) ht
theorem wX6_car_38 : E_ d mX6_car 38 [s0, s1, s2, s3, s4] (.int x :: st) h = E_ d mX6_car 39 [xk s0, .val (.int x), s2, s3, s4] st h := e_go dX6_car_38 rfl rfl
theorem wX6_car_39 : E_ d mX6_car 39 [.val (.ref a), s1, s2, s3, s4] st h = E_ d mX6_car 40 [.val (.ref a), s1, s2, s3, s4] (.ref a :: st) h := e_go dX6_car_39 rfl rfl
theorem wX6_car_39q : E_ d mX6_car 39 [.val (va_rf q), s1, s2, s3, s4] st h = E_ d mX6_car 40 [.val (va_rf q), s1, s2, s3, s4] (va_rf q :: st) h := by cases q <;> exact e_go dX6_car_39 rfl rfl
theorem wX6_car_39n : E_ d mX6_car 39 [.val .null, s1, s2, s3, s4] st h = E_ d mX6_car 40 [.val .null, s1, s2, s3, s4] (.null :: st) h := e_go dX6_car_39 rfl rfl
theorem wX6_car_40 : E_ d mX6_car 40 ls st h = E_ d mX6_car 42 ls (.ref 2 :: st) h := e_go dX6_car_40 rfl rfl
theorem wX6_car_42 : E_ d mX6_car 42 ls st h = E_ d mX6_car 43 ls (.int (nI 1) :: st) h := e_iconst dX6_car_42 kiconst_1 rfl
theorem wX6_car_43 : E_ d mX6_car 43 ls st h = E_ d mX6_car 46 ls (.int (nI 200) :: st) h := e_sipush dX6_car_43 ksipush_200 rfl
theorem wX6_car_46 (ht : oT h a = 8) : E_ (d + 1) mX6_car 46 ls [.int x2, .int x1, .ref r1, .ref a] h = (C_ d mX6_told [.ref a, .ref r1, .int x1, .int x2] h).bind fun r => E_ (d + 1) mX6_car 49 ls (xpu r.1 []) r.2 := e_vir dX6_car_46 rfl rfl rfl rfl rfl rfl (Nat.le_of_ble_eq_true rfl) (Nat.le_of_ble_eq_true rfl) ht
theorem wX6_car_49 : E_ d mX6_car 49 [s0, s1, s2, s3, s4] (.int x :: st) h = E_ d mX6_car 50 [s0, xk s1, .val (.int x), s3, s4] st h := e_go dX6_car_49 rfl rfl
theorem wX6_car_50 : E_ d mX6_car 50 [.val (.ref a), s1, s2, s3, s4] st h = E_ d mX6_car 51 [.val (.ref a), s1, s2, s3, s4] (.ref a :: st) h := e_go dX6_car_50 rfl rfl
theorem wX6_car_50q : E_ d mX6_car 50 [.val (va_rf q), s1, s2, s3, s4] st h = E_ d mX6_car 51 [.val (va_rf q), s1, s2, s3, s4] (va_rf q :: st) h := by cases q <;> exact e_go dX6_car_50 rfl rfl
theorem wX6_car_50n : E_ d mX6_car 50 [.val .null, s1, s2, s3, s4] st h = E_ d mX6_car 51 [.val .null, s1, s2, s3, s4] (.null :: st) h := e_go dX6_car_50 rfl rfl
theorem wX6_car_51 : E_ d mX6_car 51 ls st h = E_ d mX6_car 53 ls (.ref 3 :: st) h := e_go dX6_car_51 rfl rfl
theorem wX6_car_53 : E_ d mX6_car 53 ls st h = E_ d mX6_car 54 ls (.int (nI 1) :: st) h := e_iconst dX6_car_53 kiconst_1 rfl
theorem wX6_car_54 : E_ d mX6_car 54 ls st h = E_ d mX6_car 56 ls (.int (nI 9) :: st) h := e_bipush dX6_car_54 kbipush_9 rfl
theorem wX6_car_56 (ht : oT h a = 8) : E_ (d + 1) mX6_car 56 ls [.int x2, .int x1, .ref r1, .ref a] h = (C_ d mX6_told [.ref a, .ref r1, .int x1, .int x2] h).bind fun r => E_ (d + 1) mX6_car 59 ls (xpu r.1 []) r.2 := e_vir dX6_car_56 rfl rfl rfl rfl rfl rfl (Nat.le_of_ble_eq_true rfl) (Nat.le_of_ble_eq_true rfl) ht
theorem wX6_car_59 : E_ d mX6_car 59 [s0, s1, s2, s3, s4] (.int x :: st) h = E_ d mX6_car 60 [s0, s1, xk s2, .val (.int x), s4] st h := e_go dX6_car_59 rfl rfl
theorem wX6_car_60 : E_ d mX6_car 60 [.val (.ref a), s1, s2, s3, s4] st h = E_ d mX6_car 61 [.val (.ref a), s1, s2, s3, s4] (.ref a :: st) h := e_go dX6_car_60 rfl rfl
theorem wX6_car_60q : E_ d mX6_car 60 [.val (va_rf q), s1, s2, s3, s4] st h = E_ d mX6_car 61 [.val (va_rf q), s1, s2, s3, s4] (va_rf q :: st) h := by cases q <;> exact e_go dX6_car_60 rfl rfl
theorem wX6_car_60n : E_ d mX6_car 60 [.val .null, s1, s2, s3, s4] st h = E_ d mX6_car 61 [.val .null, s1, s2, s3, s4] (.null :: st) h := e_go dX6_car_60 rfl rfl
theorem wX6_car_61 : E_ d mX6_car 61 ls st h = E_ d mX6_car 63 ls (.ref 4 :: st) h := e_go dX6_car_61 rfl rfl
theorem wX6_car_63 : E_ d mX6_car 63 ls st h = E_ d mX6_car 64 ls (.int (nI 0) :: st) h := e_iconst dX6_car_63 kiconst_0 rfl
theorem wX6_car_64 : E_ d mX6_car 64 ls st h = E_ d mX6_car 65 ls (.int (nI 3) :: st) h := e_iconst dX6_car_64 kiconst_3 rfl
theorem wX6_car_65 (ht : oT h a = 8) : E_ (d + 1) mX6_car 65 ls [.int x2, .int x1, .ref r1, .ref a] h = (C_ d mX6_told [.ref a, .ref r1, .int x1, .int x2] h).bind fun r => E_ (d + 1) mX6_car 68 ls (xpu r.1 []) r.2 := e_vir dX6_car_65 rfl rfl rfl rfl rfl rfl (Nat.le_of_ble_eq_true rfl) (Nat.le_of_ble_eq_true rfl) ht
theorem wX6_car_68 : E_ d mX6_car 68 [s0, s1, s2, s3, s4] (.int x :: st) h = E_ d mX6_car 70 [s0, s1, s2, xk s3, .val (.int x)] st h := e_go dX6_car_68 rfl rfl
theorem wX6_car_70 : E_ d mX6_car 70 [.val (.ref a), s1, s2, s3, s4] st h = E_ d mX6_car 71 [.val (.ref a), s1, s2, s3, s4] (.ref a :: st) h := e_go dX6_car_70 rfl rfl
theorem wX6_car_70q : E_ d mX6_car 70 [.val (va_rf q), s1, s2, s3, s4] st h = E_ d mX6_car 71 [.val (va_rf q), s1, s2, s3, s4] (va_rf q :: st) h := by cases q <;> exact e_go dX6_car_70 rfl rfl
theorem wX6_car_70n : E_ d mX6_car 70 [.val .null, s1, s2, s3, s4] st h = E_ d mX6_car 71 [.val .null, s1, s2, s3, s4] (.null :: st) h := e_go dX6_car_70 rfl rfl
theorem wX6_car_71 (ht : oT h a = 8) : E_ d mX6_car 71 ls (.ref a :: st) h = E_ d mX6_car 74 ls (.int (oI h a 8) :: st) h := e_getI dX6_car_71 rfl rfl ht
theorem wX6_car_74 : E_ d mX6_car 74 ls (.int x :: st) h = if x = 0 then E_ d mX6_car 77 ls st h else E_ d mX6_car 100 ls st h := e_zne dX6_car_74 rfl rfl
theorem wX6_car_77 : E_ d mX6_car 77 [.val (.ref a), s1, s2, s3, s4] st h = E_ d mX6_car 78 [.val (.ref a), s1, s2, s3, s4] (.ref a :: st) h := e_go dX6_car_77 rfl rfl
theorem wX6_car_77q : E_ d mX6_car 77 [.val (va_rf q), s1, s2, s3, s4] st h = E_ d mX6_car 78 [.val (va_rf q), s1, s2, s3, s4] (va_rf q :: st) h := by cases q <;> exact e_go dX6_car_77 rfl rfl
theorem wX6_car_77n : E_ d mX6_car 77 [.val .null, s1, s2, s3, s4] st h = E_ d mX6_car 78 [.val .null, s1, s2, s3, s4] (.null :: st) h := e_go dX6_car_77 rfl rfl
theorem wX6_car_78 (ht : oT h a = 8) : E_ d mX6_car 78 ls (.ref a :: st) h = E_ d mX6_car 81 ls (va_rf (oR h a 1) :: st) h := e_getR0 dX6_car_78 rfl rfl ht
theorem wX6_car_81 (ht : oT h a = 3) : E_ d mX6_car 81 ls (.ref a :: st) h = E_ d mX6_car 84 ls (va_rf (oR h a 0) :: st) h := e_getR0 dX6_car_81 rfl rfl ht
theorem wX6_car_84 : E_ d mX6_car 84 ls st h = E_ d mX6_car 87 ls (.ref (oX h) :: st) (pO h 9 4) := e_go dX6_car_84 rfl rfl
theorem wX6_car_87 : E_ d mX6_car 87 ls (.ref a :: st) h = E_ d mX6_car 88 ls (.ref a :: .ref a :: st) h := e_go dX6_car_87 rfl rfl
theorem wX6_car_88 : E_ d mX6_car 88 [s0, .val (.int x), s2, s3, s4] st h = E_ d mX6_car 89 [s0, .val (.int x), s2, s3, s4] (.int x :: st) h := e_go dX6_car_88 rfl rfl
theorem wX6_car_89 : E_ d mX6_car 89 [s0, s1, .val (.int x), s3, s4] st h = E_ d mX6_car 90 [s0, s1, .val (.int x), s3, s4] (.int x :: st) h := e_go dX6_car_89 rfl rfl
theorem wX6_car_90 : E_ d mX6_car 90 [s0, s1, s2, .val (.int x), s4] st h = E_ d mX6_car 91 [s0, s1, s2, .val (.int x), s4] (.int x :: st) h := e_go dX6_car_90 rfl rfl
theorem wX6_car_91 : E_ d mX6_car 91 [s0, s1, s2, s3, .val (.int x)] st h = E_ d mX6_car 93 [s0, s1, s2, s3, .val (.int x)] (.int x :: st) h := e_go dX6_car_91 rfl rfl
theorem wX6_car_93 : E_ (d + 1) mX6_car 93 ls [.int x4, .int x3, .int x2, .int x1, .ref a, .ref r1, .ref r2] h = (C_ d mX7_init [.ref a, .int x1, .int x2, .int x3, .int x4] h).bind fun r => E_ (d + 1) mX6_car 96 ls (xpu r.1 [.ref r1, .ref r2]) r.2 := e_call dX6_car_93 rfl rfl
theorem wX6_car_96 (ht : oT h a = 4) : E_ (d + 1) mX6_car 96 ls [.ref r1, .ref a] h = (C_ d mJ2_add [.ref a, .ref r1] h).bind fun r => E_ (d + 1) mX6_car 99 ls (xpu r.1 []) r.2 := e_vir dX6_car_96 rfl rfl rfl rfl rfl rfl (Nat.le_of_ble_eq_true rfl) (Nat.le_of_ble_eq_true rfl) ht
theorem wX6_car_99 : E_ d mX6_car 99 ls (.int x :: st) h = E_ d mX6_car 100 ls st h := e_go dX6_car_99 rfl rfl
theorem wX6_car_100 : E_ d mX6_car 100 ls [] h = some (none, h) := e_rt dX6_car_100 rfl rfl
/-! FootOut$Reader.space -/
theorem wX6_space_0 : E_ d mX6_space 0 [s0, .val (.int x)] st h = E_ d mX6_space 1 [s0, .val (.int x)] (.int x :: st) h := e_go dX6_space_0 rfl rfl
theorem wX6_space_1 : E_ d mX6_space 1 ls (.int x :: st) h = if x = 0 then E_ d mX6_space 9 ls st h else E_ d mX6_space 4 ls st h := e_zeq dX6_space_1 rfl rfl
theorem wX6_space_4 : E_ d mX6_space 4 [.val (.ref a), s1] st h = E_ d mX6_space 5 [.val (.ref a), s1] (.ref a :: st) h := e_go dX6_space_4 rfl rfl
theorem wX6_space_4q : E_ d mX6_space 4 [.val (va_rf q), s1] st h = E_ d mX6_space 5 [.val (va_rf q), s1] (va_rf q :: st) h := by cases q <;> exact e_go dX6_space_4 rfl rfl
theorem wX6_space_4n : E_ d mX6_space 4 [.val .null, s1] st h = E_ d mX6_space 5 [.val .null, s1] (.null :: st) h := e_go dX6_space_4 rfl rfl
theorem wX6_space_5 : E_ d mX6_space 5 ls st h = E_ d mX6_space 6 ls (.int (nI 4) :: st) h := e_iconst dX6_space_5 kiconst_4 rfl
theorem wX6_space_6 (ht : oT h a = 8) : E_ (d + 1) mX6_space 6 ls [.int x1, .ref a] h = (C_ d mX6_wrong [.ref a, .int x1] h).bind fun r => E_ (d + 1) mX6_space 9 ls (xpu r.1 []) r.2 := e_vir dX6_space_6 rfl rfl rfl rfl rfl rfl (Nat.le_of_ble_eq_true rfl) (Nat.le_of_ble_eq_true rfl) ht
theorem wX6_space_9 : E_ d mX6_space 9 [.val (.ref a), s1] st h = E_ d mX6_space 10 [.val (.ref a), s1] (.ref a :: st) h := e_go dX6_space_9 rfl rfl
theorem wX6_space_9q : E_ d mX6_space 9 [.val (va_rf q), s1] st h = E_ d mX6_space 10 [.val (va_rf q), s1] (va_rf q :: st) h := by cases q <;> exact e_go dX6_space_9 rfl rfl
theorem wX6_space_9n : E_ d mX6_space 9 [.val .null, s1] st h = E_ d mX6_space 10 [.val .null, s1] (.null :: st) h := e_go dX6_space_9 rfl rfl
theorem wX6_space_10 (ht : oT h a = 8) : E_ d mX6_space 10 ls (.ref a :: st) h = E_ d mX6_space 13 ls (.int (oI h a 8) :: st) h := e_getI dX6_space_10 rfl rfl ht
theorem wX6_space_13 : E_ d mX6_space 13 ls (.int x :: st) h = if x = 0 then E_ d mX6_space 16 ls st h else E_ d mX6_space 20 ls st h := e_zne dX6_space_13 rfl rfl
theorem wX6_space_16 : E_ d mX6_space 16 [.val (.ref a), s1] st h = E_ d mX6_space 17 [.val (.ref a), s1] (.ref a :: st) h := e_go dX6_space_16 rfl rfl
theorem wX6_space_16q : E_ d mX6_space 16 [.val (va_rf q), s1] st h = E_ d mX6_space 17 [.val (va_rf q), s1] (va_rf q :: st) h := by cases q <;> exact e_go dX6_space_16 rfl rfl
theorem wX6_space_16n : E_ d mX6_space 16 [.val .null, s1] st h = E_ d mX6_space 17 [.val .null, s1] (.null :: st) h := e_go dX6_space_16 rfl rfl
theorem wX6_space_17 (ht : oT h a = 8) : E_ (d + 1) mX6_space 17 ls [.ref a] h = (C_ d mX6_next [.ref a] h).bind fun r => E_ (d + 1) mX6_space 20 ls (xpu r.1 []) r.2 := e_vir dX6_space_17 rfl rfl rfl rfl rfl rfl (Nat.le_of_ble_eq_true rfl) (Nat.le_of_ble_eq_true rfl) ht
theorem wX6_space_20 : E_ d mX6_space 20 ls [] h = some (none, h) := e_rt dX6_space_20 rfl rfl
/-! FootOut$Reader.wrong -/
theorem wX6_wrong_0 : E_ d mX6_wrong 0 [.val (.ref a), s1] st h = E_ d mX6_wrong 1 [.val (.ref a), s1] (.ref a :: st) h := e_go dX6_wrong_0 rfl rfl
theorem wX6_wrong_0q : E_ d mX6_wrong 0 [.val (va_rf q), s1] st h = E_ d mX6_wrong 1 [.val (va_rf q), s1] (va_rf q :: st) h := by cases q <;> exact e_go dX6_wrong_0 rfl rfl
theorem wX6_wrong_0n : E_ d mX6_wrong 0 [.val .null, s1] st h = E_ d mX6_wrong 1 [.val .null, s1] (.null :: st) h := e_go dX6_wrong_0 rfl rfl
theorem wX6_wrong_1 (ht : oT h a = 8) : E_ d mX6_wrong 1 ls (.ref a :: st) h = E_ d mX6_wrong 4 ls (.int (oI h a 8) :: st) h := e_getI dX6_wrong_1 rfl rfl ht
theorem wX6_wrong_4 : E_ d mX6_wrong 4 ls (.int x :: st) h = if x = 0 then E_ d mX6_wrong 8 ls st h else E_ d mX6_wrong 7 ls st h := e_zeq dX6_wrong_4 rfl rfl
theorem wX6_wrong_7 : E_ d mX6_wrong 7 ls [] h = some (none, h) := e_rt dX6_wrong_7 rfl rfl
theorem wX6_wrong_8 : E_ d mX6_wrong 8 [.val (.ref a), s1] st h = E_ d mX6_wrong 9 [.val (.ref a), s1] (.ref a :: st) h := e_go dX6_wrong_8 rfl rfl
theorem wX6_wrong_8q : E_ d mX6_wrong 8 [.val (va_rf q), s1] st h = E_ d mX6_wrong 9 [.val (va_rf q), s1] (va_rf q :: st) h := by cases q <;> exact e_go dX6_wrong_8 rfl rfl
theorem wX6_wrong_8n : E_ d mX6_wrong 8 [.val .null, s1] st h = E_ d mX6_wrong 9 [.val .null, s1] (.null :: st) h := e_go dX6_wrong_8 rfl rfl
theorem wX6_wrong_9 : E_ d mX6_wrong 9 [.val (.ref a), s1] st h = E_ d mX6_wrong 10 [.val (.ref a), s1] (.ref a :: st) h := e_go dX6_wrong_9 rfl rfl
theorem wX6_wrong_9q : E_ d mX6_wrong 9 [.val (va_rf q), s1] st h = E_ d mX6_wrong 10 [.val (va_rf q), s1] (va_rf q :: st) h := by cases q <;> exact e_go dX6_wrong_9 rfl rfl
theorem wX6_wrong_9n : E_ d mX6_wrong 9 [.val .null, s1] st h = E_ d mX6_wrong 10 [.val .null, s1] (.null :: st) h := e_go dX6_wrong_9 rfl rfl
theorem wX6_wrong_10 (ht : oT h a = 8) : E_ d mX6_wrong 10 ls (.ref a :: st) h = E_ d mX6_wrong 13 ls (.int (oI h a 5) :: st) h := e_getI dX6_wrong_10 rfl rfl ht
theorem wX6_wrong_13 : E_ d mX6_wrong 13 ls st h = E_ d mX6_wrong 14 ls (.int (nI 3) :: st) h := e_iconst dX6_wrong_13 kiconst_3 rfl
theorem wX6_wrong_14 : E_ d mX6_wrong 14 ls (.int y :: .int x :: st) h = if x = y then E_ d mX6_wrong 17 ls st h else E_ d mX6_wrong 21 ls st h := e_ine dX6_wrong_14 rfl rfl
theorem wX6_wrong_17 : E_ d mX6_wrong 17 ls st h = E_ d mX6_wrong 18 ls (.int (nI 1) :: st) h := e_iconst dX6_wrong_17 kiconst_1 rfl
theorem wX6_wrong_18 : E_ d mX6_wrong 18 ls st h = E_ d mX6_wrong 22 ls st h := e_gt dX6_wrong_18 rfl
theorem wX6_wrong_21 : E_ d mX6_wrong 21 [s0, .val (.int x)] st h = E_ d mX6_wrong 22 [s0, .val (.int x)] (.int x :: st) h := e_go dX6_wrong_21 rfl rfl
theorem wX6_wrong_22 (ht : oT h a = 8) : E_ d mX6_wrong 22 ls (.int x :: .ref a :: st) h = E_ d mX6_wrong 25 ls st (pI h a (va_up (oI h a) 8 x)) := e_putI dX6_wrong_22 rfl rfl ht
theorem wX6_wrong_25 : E_ d mX6_wrong 25 [.val (.ref a), s1] st h = E_ d mX6_wrong 26 [.val (.ref a), s1] (.ref a :: st) h := e_go dX6_wrong_25 rfl rfl
theorem wX6_wrong_25q : E_ d mX6_wrong 25 [.val (va_rf q), s1] st h = E_ d mX6_wrong 26 [.val (va_rf q), s1] (va_rf q :: st) h := by cases q <;> exact e_go dX6_wrong_25 rfl rfl
theorem wX6_wrong_25n : E_ d mX6_wrong 25 [.val .null, s1] st h = E_ d mX6_wrong 26 [.val .null, s1] (.null :: st) h := e_go dX6_wrong_25 rfl rfl
theorem wX6_wrong_26 : E_ d mX6_wrong 26 [.val (.ref a), s1] st h = E_ d mX6_wrong 27 [.val (.ref a), s1] (.ref a :: st) h := e_go dX6_wrong_26 rfl rfl
theorem wX6_wrong_26q : E_ d mX6_wrong 26 [.val (va_rf q), s1] st h = E_ d mX6_wrong 27 [.val (va_rf q), s1] (va_rf q :: st) h := by cases q <;> exact e_go dX6_wrong_26 rfl rfl
theorem wX6_wrong_26n : E_ d mX6_wrong 26 [.val .null, s1] st h = E_ d mX6_wrong 27 [.val .null, s1] (.null :: st) h := e_go dX6_wrong_26 rfl rfl
theorem wX6_wrong_27 (ht : oT h a = 8) : E_ d mX6_wrong 27 ls (.ref a :: st) h = E_ d mX6_wrong 30 ls (.int (oI h a 4) :: st) h := e_getI dX6_wrong_27 rfl rfl ht
theorem wX6_wrong_30 (ht : oT h a = 8) : E_ d mX6_wrong 30 ls (.int x :: .ref a :: st) h = E_ d mX6_wrong 33 ls st (pI h a (va_up (oI h a) 9 x)) := e_putI dX6_wrong_30 rfl rfl ht
theorem wX6_wrong_33 : E_ d mX6_wrong 33 ls [] h = some (none, h) := e_rt dX6_wrong_33 rfl rfl
/-! FootOut$Reader.number -/
theorem wX6_number_0 : E_ d mX6_number 0 [.val (.ref a), s1, s2, s3] st h = E_ d mX6_number 1 [.val (.ref a), s1, s2, s3] (.ref a :: st) h := e_go dX6_number_0 rfl rfl
theorem wX6_number_0q : E_ d mX6_number 0 [.val (va_rf q), s1, s2, s3] st h = E_ d mX6_number 1 [.val (va_rf q), s1, s2, s3] (va_rf q :: st) h := by cases q <;> exact e_go dX6_number_0 rfl rfl
theorem wX6_number_0n : E_ d mX6_number 0 [.val .null, s1, s2, s3] st h = E_ d mX6_number 1 [.val .null, s1, s2, s3] (.null :: st) h := e_go dX6_number_0 rfl rfl
theorem wX6_number_1 (ht : oT h a = 8) : E_ d mX6_number 1 ls (.ref a :: st) h = E_ d mX6_number 4 ls (.int (oI h a 8) :: st) h := e_getI dX6_number_1 rfl rfl ht
theorem wX6_number_4 : E_ d mX6_number 4 ls (.int x :: st) h = if x = 0 then E_ d mX6_number 7 ls st h else E_ d mX6_number 20 ls st h := e_zne dX6_number_4 rfl rfl
theorem wX6_number_7 : E_ d mX6_number 7 [.val (.ref a), s1, s2, s3] st h = E_ d mX6_number 8 [.val (.ref a), s1, s2, s3] (.ref a :: st) h := e_go dX6_number_7 rfl rfl
theorem wX6_number_7q : E_ d mX6_number 7 [.val (va_rf q), s1, s2, s3] st h = E_ d mX6_number 8 [.val (va_rf q), s1, s2, s3] (va_rf q :: st) h := by cases q <;> exact e_go dX6_number_7 rfl rfl
theorem wX6_number_7n : E_ d mX6_number 7 [.val .null, s1, s2, s3] st h = E_ d mX6_number 8 [.val .null, s1, s2, s3] (.null :: st) h := e_go dX6_number_7 rfl rfl
theorem wX6_number_8 (ht : oT h a = 8) : E_ d mX6_number 8 ls (.ref a :: st) h = E_ d mX6_number 11 ls (.int (oI h a 5) :: st) h := e_getI dX6_number_8 rfl rfl ht
theorem wX6_number_11 : E_ d mX6_number 11 ls st h = E_ d mX6_number 12 ls (.int (nI 2) :: st) h := e_iconst dX6_number_11 kiconst_2 rfl
theorem wX6_number_12 : E_ d mX6_number 12 ls (.int y :: .int x :: st) h = if x = y then E_ d mX6_number 20 ls st h else E_ d mX6_number 15 ls st h := e_ieq dX6_number_12 rfl rfl
theorem wX6_number_15 : E_ d mX6_number 15 [.val (.ref a), s1, s2, s3] st h = E_ d mX6_number 16 [.val (.ref a), s1, s2, s3] (.ref a :: st) h := e_go dX6_number_15 rfl rfl
theorem wX6_number_15q : E_ d mX6_number 15 [.val (va_rf q), s1, s2, s3] st h = E_ d mX6_number 16 [.val (va_rf q), s1, s2, s3] (va_rf q :: st) h := by cases q <;> exact e_go dX6_number_15 rfl rfl
theorem wX6_number_15n : E_ d mX6_number 15 [.val .null, s1, s2, s3] st h = E_ d mX6_number 16 [.val .null, s1, s2, s3] (.null :: st) h := e_go dX6_number_15 rfl rfl
theorem wX6_number_16 : E_ d mX6_number 16 ls st h = E_ d mX6_number 17 ls (.int (nI 2) :: st) h := e_iconst dX6_number_16 kiconst_2 rfl
theorem wX6_number_17 (ht : oT h a = 8) : E_ (d + 1) mX6_number 17 ls [.int x1, .ref a] h = (C_ d mX6_wrong [.ref a, .int x1] h).bind fun r => E_ (d + 1) mX6_number 20 ls (xpu r.1 []) r.2 := e_vir dX6_number_17 rfl rfl rfl rfl rfl rfl (Nat.le_of_ble_eq_true rfl) (Nat.le_of_ble_eq_true rfl) ht
theorem wX6_number_20 : E_ d mX6_number 20 [.val (.ref a), s1, s2, s3] st h = E_ d mX6_number 21 [.val (.ref a), s1, s2, s3] (.ref a :: st) h := e_go dX6_number_20 rfl rfl
theorem wX6_number_20q : E_ d mX6_number 20 [.val (va_rf q), s1, s2, s3] st h = E_ d mX6_number 21 [.val (va_rf q), s1, s2, s3] (va_rf q :: st) h := by cases q <;> exact e_go dX6_number_20 rfl rfl
theorem wX6_number_20n : E_ d mX6_number 20 [.val .null, s1, s2, s3] st h = E_ d mX6_number 21 [.val .null, s1, s2, s3] (.null :: st) h := e_go dX6_number_20 rfl rfl
theorem wX6_number_21 (ht : oT h a = 8) : E_ d mX6_number 21 ls (.ref a :: st) h = E_ d mX6_number 24 ls (.int (oI h a 8) :: st) h := e_getI dX6_number_21 rfl rfl ht
theorem wX6_number_24 : E_ d mX6_number 24 ls (.int x :: st) h = if x = 0 then E_ d mX6_number 27 ls st h else E_ d mX6_number 47 ls st h := e_zne dX6_number_24 rfl rfl
theorem wX6_number_27 : E_ d mX6_number 27 [.val (.ref a), s1, s2, s3] st h = E_ d mX6_number 28 [.val (.ref a), s1, s2, s3] (.ref a :: st) h := e_go dX6_number_27 rfl rfl
theorem wX6_number_27q : E_ d mX6_number 27 [.val (va_rf q), s1, s2, s3] st h = E_ d mX6_number 28 [.val (va_rf q), s1, s2, s3] (va_rf q :: st) h := by cases q <;> exact e_go dX6_number_27 rfl rfl
theorem wX6_number_27n : E_ d mX6_number 27 [.val .null, s1, s2, s3] st h = E_ d mX6_number 28 [.val .null, s1, s2, s3] (.null :: st) h := e_go dX6_number_27 rfl rfl
theorem wX6_number_28 (ht : oT h a = 8) : E_ d mX6_number 28 ls (.ref a :: st) h = E_ d mX6_number 31 ls (.int (oI h a 6) :: st) h := e_getI dX6_number_28 rfl rfl ht
theorem wX6_number_31 : E_ d mX6_number 31 ls (.int x :: st) h = E_ d mX6_number 32 ls (.long x.toInt64 :: st) h := e_go dX6_number_31 rfl rfl
theorem wX6_number_32 : E_ d mX6_number 32 [s0, .val (.int x), s2, s3] st h = E_ d mX6_number 33 [s0, .val (.int x), s2, s3] (.int x :: st) h := e_go dX6_number_32 rfl rfl
theorem wX6_number_33 : E_ d mX6_number 33 ls (.int x :: st) h = E_ d mX6_number 34 ls (.long x.toInt64 :: st) h := e_go dX6_number_33 rfl rfl
theorem wX6_number_34 : E_ d mX6_number 34 [s0, s1, .val (.int x), s3] st h = E_ d mX6_number 35 [s0, s1, .val (.int x), s3] (.int x :: st) h := e_go dX6_number_34 rfl rfl
theorem wX6_number_35 : E_ d mX6_number 35 ls (.int x :: st) h = E_ d mX6_number 36 ls (.long x.toInt64 :: st) h := e_go dX6_number_35 rfl rfl
theorem wX6_number_36 : E_ (d + 1) mX6_number 36 ls [.long u3, .long u2, .long u1] h = (C_ d mX0_in [.long u1, .long u2, .long u3] h).bind fun r => E_ (d + 1) mX6_number 39 ls (xpu r.1 []) r.2 := e_call dX6_number_36 rfl rfl
theorem wX6_number_39 : E_ d mX6_number 39 ls (.int x :: st) h = if x = 0 then E_ d mX6_number 42 ls st h else E_ d mX6_number 47 ls st h := e_zne dX6_number_39 rfl rfl
theorem wX6_number_42 : E_ d mX6_number 42 [.val (.ref a), s1, s2, s3] st h = E_ d mX6_number 43 [.val (.ref a), s1, s2, s3] (.ref a :: st) h := e_go dX6_number_42 rfl rfl
theorem wX6_number_42q : E_ d mX6_number 42 [.val (va_rf q), s1, s2, s3] st h = E_ d mX6_number 43 [.val (va_rf q), s1, s2, s3] (va_rf q :: st) h := by cases q <;> exact e_go dX6_number_42 rfl rfl
theorem wX6_number_42n : E_ d mX6_number 42 [.val .null, s1, s2, s3] st h = E_ d mX6_number 43 [.val .null, s1, s2, s3] (.null :: st) h := e_go dX6_number_42 rfl rfl
theorem wX6_number_43 : E_ d mX6_number 43 ls st h = E_ d mX6_number 44 ls (.int (nI 3) :: st) h := e_iconst dX6_number_43 kiconst_3 rfl
theorem wX6_number_44 (ht : oT h a = 8) : E_ (d + 1) mX6_number 44 ls [.int x1, .ref a] h = (C_ d mX6_wrong [.ref a, .int x1] h).bind fun r => E_ (d + 1) mX6_number 47 ls (xpu r.1 []) r.2 := e_vir dX6_number_44 rfl rfl rfl rfl rfl rfl (Nat.le_of_ble_eq_true rfl) (Nat.le_of_ble_eq_true rfl) ht
theorem wX6_number_47 : E_ d mX6_number 47 [.val (.ref a), s1, s2, s3] st h = E_ d mX6_number 48 [.val (.ref a), s1, s2, s3] (.ref a :: st) h := e_go dX6_number_47 rfl rfl
theorem wX6_number_47q : E_ d mX6_number 47 [.val (va_rf q), s1, s2, s3] st h = E_ d mX6_number 48 [.val (va_rf q), s1, s2, s3] (va_rf q :: st) h := by cases q <;> exact e_go dX6_number_47 rfl rfl
theorem wX6_number_47n : E_ d mX6_number 47 [.val .null, s1, s2, s3] st h = E_ d mX6_number 48 [.val .null, s1, s2, s3] (.null :: st) h := e_go dX6_number_47 rfl rfl
theorem wX6_number_48 (ht : oT h a = 8) : E_ d mX6_number 48 ls (.ref a :: st) h = E_ d mX6_number 51 ls (.int (oI h a 8) :: st) h := e_getI dX6_number_48 rfl rfl ht
theorem wX6_number_51 : E_ d mX6_number 51 ls (.int x :: st) h = if x = 0 then E_ d mX6_number 56 ls st h else E_ d mX6_number 54 ls st h := e_zeq dX6_number_51 rfl rfl
theorem wX6_number_54 : E_ d mX6_number 54 [s0, .val (.int x), s2, s3] st h = E_ d mX6_number 55 [s0, .val (.int x), s2, s3] (.int x :: st) h := e_go dX6_number_54 rfl rfl
theorem wX6_number_55 : E_ d mX6_number 55 ls [.int x] h = some (some (.int x), h) := e_rt dX6_number_55 rfl rfl
theorem wX6_number_56 : E_ d mX6_number 56 [.val (.ref a), s1, s2, s3] st h = E_ d mX6_number 57 [.val (.ref a), s1, s2, s3] (.ref a :: st) h := e_go dX6_number_56 rfl rfl
theorem wX6_number_56q : E_ d mX6_number 56 [.val (va_rf q), s1, s2, s3] st h = E_ d mX6_number 57 [.val (va_rf q), s1, s2, s3] (va_rf q :: st) h := by cases q <;> exact e_go dX6_number_56 rfl rfl
theorem wX6_number_56n : E_ d mX6_number 56 [.val .null, s1, s2, s3] st h = E_ d mX6_number 57 [.val .null, s1, s2, s3] (.null :: st) h := e_go dX6_number_56 rfl rfl
theorem wX6_number_57 (ht : oT h a = 8) : E_ d mX6_number 57 ls (.ref a :: st) h = E_ d mX6_number 60 ls (.int (oI h a 6) :: st) h := e_getI dX6_number_57 rfl rfl ht
theorem wX6_number_60 : E_ d mX6_number 60 [s0, s1, s2, s3] (.int x :: st) h = E_ d mX6_number 61 [s0, s1, xk s2, .val (.int x)] st h := e_go dX6_number_60 rfl rfl
theorem wX6_number_61 : E_ d mX6_number 61 [.val (.ref a), s1, s2, s3] st h = E_ d mX6_number 62 [.val (.ref a), s1, s2, s3] (.ref a :: st) h := e_go dX6_number_61 rfl rfl
theorem wX6_number_61q : E_ d mX6_number 61 [.val (va_rf q), s1, s2, s3] st h = E_ d mX6_number 62 [.val (va_rf q), s1, s2, s3] (va_rf q :: st) h := by cases q <;> exact e_go dX6_number_61 rfl rfl
theorem wX6_number_61n : E_ d mX6_number 61 [.val .null, s1, s2, s3] st h = E_ d mX6_number 62 [.val .null, s1, s2, s3] (.null :: st) h := e_go dX6_number_61 rfl rfl
theorem wX6_number_62 (ht : oT h a = 8) : E_ (d + 1) mX6_number 62 ls [.ref a] h = (C_ d mX6_next [.ref a] h).bind fun r => E_ (d + 1) mX6_number 65 ls (xpu r.1 []) r.2 := e_vir dX6_number_62 rfl rfl rfl rfl rfl rfl (Nat.le_of_ble_eq_true rfl) (Nat.le_of_ble_eq_true rfl) ht
theorem wX6_number_65 : E_ d mX6_number 65 [s0, s1, s2, .val (.int x)] st h = E_ d mX6_number 66 [s0, s1, s2, .val (.int x)] (.int x :: st) h := e_go dX6_number_65 rfl rfl
theorem wX6_number_66 : E_ d mX6_number 66 ls [.int x] h = some (some (.int x), h) := e_rt dX6_number_66 rfl rfl
/-! FootOut$Reader.told -/
theorem wX6_told_0 : E_ d mX6_told 0 [.val (.ref a), s1, s2, s3] st h = E_ d mX6_told 1 [.val (.ref a), s1, s2, s3] (.ref a :: st) h := e_go dX6_told_0 rfl rfl
theorem wX6_told_0q : E_ d mX6_told 0 [.val (va_rf q), s1, s2, s3] st h = E_ d mX6_told 1 [.val (va_rf q), s1, s2, s3] (va_rf q :: st) h := by cases q <;> exact e_go dX6_told_0 rfl rfl
theorem wX6_told_0n : E_ d mX6_told 0 [.val .null, s1, s2, s3] st h = E_ d mX6_told 1 [.val .null, s1, s2, s3] (.null :: st) h := e_go dX6_told_0 rfl rfl
theorem wX6_told_1 : E_ d mX6_told 1 [s0, .val (.ref a), s2, s3] st h = E_ d mX6_told 2 [s0, .val (.ref a), s2, s3] (.ref a :: st) h := e_go dX6_told_1 rfl rfl
theorem wX6_told_1q : E_ d mX6_told 1 [s0, .val (va_rf q), s2, s3] st h = E_ d mX6_told 2 [s0, .val (va_rf q), s2, s3] (va_rf q :: st) h := by cases q <;> exact e_go dX6_told_1 rfl rfl
theorem wX6_told_1n : E_ d mX6_told 1 [s0, .val .null, s2, s3] st h = E_ d mX6_told 2 [s0, .val .null, s2, s3] (.null :: st) h := e_go dX6_told_1 rfl rfl
theorem wX6_told_2 (ht : oT h a = 8) : E_ (d + 1) mX6_told 2 ls [.ref r1, .ref a] h = (C_ d mX6_takes [.ref a, .ref r1] h).bind fun r => E_ (d + 1) mX6_told 5 ls (xpu r.1 []) r.2 := e_vir dX6_told_2 rfl rfl rfl rfl rfl rfl (Nat.le_of_ble_eq_true rfl) (Nat.le_of_ble_eq_true rfl) ht
theorem wX6_told_5 : E_ d mX6_told 5 ls (.int x :: st) h = if x = 0 then E_ d mX6_told 8 ls st h else E_ d mX6_told 13 ls st h := e_zne dX6_told_5 rfl rfl
theorem wX6_told_8 : E_ d mX6_told 8 [.val (.ref a), s1, s2, s3] st h = E_ d mX6_told 9 [.val (.ref a), s1, s2, s3] (.ref a :: st) h := e_go dX6_told_8 rfl rfl
theorem wX6_told_8q : E_ d mX6_told 8 [.val (va_rf q), s1, s2, s3] st h = E_ d mX6_told 9 [.val (va_rf q), s1, s2, s3] (va_rf q :: st) h := by cases q <;> exact e_go dX6_told_8 rfl rfl
theorem wX6_told_8n : E_ d mX6_told 8 [.val .null, s1, s2, s3] st h = E_ d mX6_told 9 [.val .null, s1, s2, s3] (.null :: st) h := e_go dX6_told_8 rfl rfl
theorem wX6_told_9 : E_ d mX6_told 9 ls st h = E_ d mX6_told 10 ls (.int (nI 2) :: st) h := e_iconst dX6_told_9 kiconst_2 rfl
theorem wX6_told_10 (ht : oT h a = 8) : E_ (d + 1) mX6_told 10 ls [.int x1, .ref a] h = (C_ d mX6_wrong [.ref a, .int x1] h).bind fun r => E_ (d + 1) mX6_told 13 ls (xpu r.1 []) r.2 := e_vir dX6_told_10 rfl rfl rfl rfl rfl rfl (Nat.le_of_ble_eq_true rfl) (Nat.le_of_ble_eq_true rfl) ht
theorem wX6_told_13 : E_ d mX6_told 13 [.val (.ref a), s1, s2, s3] st h = E_ d mX6_told 14 [.val (.ref a), s1, s2, s3] (.ref a :: st) h := e_go dX6_told_13 rfl rfl
theorem wX6_told_13q : E_ d mX6_told 13 [.val (va_rf q), s1, s2, s3] st h = E_ d mX6_told 14 [.val (va_rf q), s1, s2, s3] (va_rf q :: st) h := by cases q <;> exact e_go dX6_told_13 rfl rfl
theorem wX6_told_13n : E_ d mX6_told 13 [.val .null, s1, s2, s3] st h = E_ d mX6_told 14 [.val .null, s1, s2, s3] (.null :: st) h := e_go dX6_told_13 rfl rfl
theorem wX6_told_14 : E_ d mX6_told 14 [s0, s1, .val (.int x), s3] st h = E_ d mX6_told 15 [s0, s1, .val (.int x), s3] (.int x :: st) h := e_go dX6_told_14 rfl rfl
theorem wX6_told_15 : E_ d mX6_told 15 [s0, s1, s2, .val (.int x)] st h = E_ d mX6_told 16 [s0, s1, s2, .val (.int x)] (.int x :: st) h := e_go dX6_told_15 rfl rfl
theorem wX6_told_16 (ht : oT h a = 8) : E_ (d + 1) mX6_told 16 ls [.int x2, .int x1, .ref a] h = (C_ d mX6_number [.ref a, .int x1, .int x2] h).bind fun r => E_ (d + 1) mX6_told 19 ls (xpu r.1 []) r.2 := e_vir dX6_told_16 rfl rfl rfl rfl rfl rfl (Nat.le_of_ble_eq_true rfl) (Nat.le_of_ble_eq_true rfl) ht
theorem wX6_told_19 : E_ d mX6_told 19 ls [.int x] h = some (some (.int x), h) := e_rt dX6_told_19 rfl rfl
/-! FootOut$Reader.takes -/
theorem wX6_takes_0 : E_ d mX6_takes 0 [.val (.ref a), s1] st h = E_ d mX6_takes 1 [.val (.ref a), s1] (.ref a :: st) h := e_go dX6_takes_0 rfl rfl
theorem wX6_takes_0q : E_ d mX6_takes 0 [.val (va_rf q), s1] st h = E_ d mX6_takes 1 [.val (va_rf q), s1] (va_rf q :: st) h := by cases q <;> exact e_go dX6_takes_0 rfl rfl
theorem wX6_takes_0n : E_ d mX6_takes 0 [.val .null, s1] st h = E_ d mX6_takes 1 [.val .null, s1] (.null :: st) h := e_go dX6_takes_0 rfl rfl
theorem wX6_takes_1 : E_ d mX6_takes 1 [s0, .val (.ref a)] st h = E_ d mX6_takes 2 [s0, .val (.ref a)] (.ref a :: st) h := e_go dX6_takes_1 rfl rfl
theorem wX6_takes_1q : E_ d mX6_takes 1 [s0, .val (va_rf q)] st h = E_ d mX6_takes 2 [s0, .val (va_rf q)] (va_rf q :: st) h := by cases q <;> exact e_go dX6_takes_1 rfl rfl
theorem wX6_takes_1n : E_ d mX6_takes 1 [s0, .val .null] st h = E_ d mX6_takes 2 [s0, .val .null] (.null :: st) h := e_go dX6_takes_1 rfl rfl
theorem wX6_takes_2 (ht : oT h a = 8) : E_ (d + 1) mX6_takes 2 ls [.ref r1, .ref a] h = (C_ d mX6_is [.ref a, .ref r1] h).bind fun r => E_ (d + 1) mX6_takes 5 ls (xpu r.1 []) r.2 := e_vir dX6_takes_2 rfl rfl rfl rfl rfl rfl (Nat.le_of_ble_eq_true rfl) (Nat.le_of_ble_eq_true rfl) ht
theorem wX6_takes_5 : E_ d mX6_takes 5 ls (.int x :: st) h = if x = 0 then E_ d mX6_takes 8 ls st h else E_ d mX6_takes 10 ls st h := e_zne dX6_takes_5 rfl rfl
theorem wX6_takes_8 : E_ d mX6_takes 8 ls st h = E_ d mX6_takes 9 ls (.int (nI 0) :: st) h := e_iconst dX6_takes_8 kiconst_0 rfl
theorem wX6_takes_9 (hx : x = 0 ∨ x = 1) : E_ d mX6_takes 9 ls [.int x] h = some (some (.int x), h) := e_rtZ dX6_takes_9 rfl hx
theorem wX6_takes_10 : E_ d mX6_takes 10 [.val (.ref a), s1] st h = E_ d mX6_takes 11 [.val (.ref a), s1] (.ref a :: st) h := e_go dX6_takes_10 rfl rfl
theorem wX6_takes_10q : E_ d mX6_takes 10 [.val (va_rf q), s1] st h = E_ d mX6_takes 11 [.val (va_rf q), s1] (va_rf q :: st) h := by cases q <;> exact e_go dX6_takes_10 rfl rfl
theorem wX6_takes_10n : E_ d mX6_takes 10 [.val .null, s1] st h = E_ d mX6_takes 11 [.val .null, s1] (.null :: st) h := e_go dX6_takes_10 rfl rfl
theorem wX6_takes_11 (ht : oT h a = 8) : E_ (d + 1) mX6_takes 11 ls [.ref a] h = (C_ d mX6_next [.ref a] h).bind fun r => E_ (d + 1) mX6_takes 14 ls (xpu r.1 []) r.2 := e_vir dX6_takes_11 rfl rfl rfl rfl rfl rfl (Nat.le_of_ble_eq_true rfl) (Nat.le_of_ble_eq_true rfl) ht
theorem wX6_takes_14 : E_ d mX6_takes 14 ls st h = E_ d mX6_takes 15 ls (.int (nI 1) :: st) h := e_iconst dX6_takes_14 kiconst_1 rfl
theorem wX6_takes_15 (hx : x = 0 ∨ x = 1) : E_ d mX6_takes 15 ls [.int x] h = some (some (.int x), h) := e_rtZ dX6_takes_15 rfl hx
/-! FootOut$Reader.leastLanes -/
theorem wX6_leastLanes_0 : E_ d mX6_leastLanes 0 ls st h = E_ d mX6_leastLanes 1 ls (.int (nI 1) :: st) h := e_iconst dX6_leastLanes_0 kiconst_1 rfl
theorem wX6_leastLanes_1 : E_ d mX6_leastLanes 1 [s0, s1, s2] (.int x :: st) h = E_ d mX6_leastLanes 2 [xk s0, .val (.int x), s2] st h := e_go dX6_leastLanes_1 rfl rfl
theorem wX6_leastLanes_2 : E_ d mX6_leastLanes 2 ls st h = E_ d mX6_leastLanes 3 ls (.int (nI 0) :: st) h := e_iconst dX6_leastLanes_2 kiconst_0 rfl
theorem wX6_leastLanes_3 : E_ d mX6_leastLanes 3 [s0, s1, s2] (.int x :: st) h = E_ d mX6_leastLanes 4 [s0, xk s1, .val (.int x)] st h := e_go dX6_leastLanes_3 rfl rfl
theorem wX6_leastLanes_4 : E_ d mX6_leastLanes 4 [s0, s1, .val (.int x)] st h = E_ d mX6_leastLanes 5 [s0, s1, .val (.int x)] (.int x :: st) h := e_go dX6_leastLanes_4 rfl rfl
theorem wX6_leastLanes_5 : E_ d mX6_leastLanes 5 [.val (.ref a), s1, s2] st h = E_ d mX6_leastLanes 6 [.val (.ref a), s1, s2] (.ref a :: st) h := e_go dX6_leastLanes_5 rfl rfl
theorem wX6_leastLanes_5q : E_ d mX6_leastLanes 5 [.val (va_rf q), s1, s2] st h = E_ d mX6_leastLanes 6 [.val (va_rf q), s1, s2] (va_rf q :: st) h := by cases q <;> exact e_go dX6_leastLanes_5 rfl rfl
theorem wX6_leastLanes_5n : E_ d mX6_leastLanes 5 [.val .null, s1, s2] st h = E_ d mX6_leastLanes 6 [.val .null, s1, s2] (.null :: st) h := e_go dX6_leastLanes_5 rfl rfl
theorem wX6_leastLanes_6 (ht : oT h a = 8) : E_ d mX6_leastLanes 6 ls (.ref a :: st) h = E_ d mX6_leastLanes 9 ls (va_rf (oR h a 1) :: st) h := e_getR0 dX6_leastLanes_6 rfl rfl ht
theorem wX6_leastLanes_9 (ht : oT h a = 3) : E_ d mX6_leastLanes 9 ls (.ref a :: st) h = E_ d mX6_leastLanes 12 ls (va_rf (oR h a 0) :: st) h := e_getR0 dX6_leastLanes_9 rfl rfl ht
theorem wX6_leastLanes_12 (ht : oT h a = 4) : E_ (d + 1) mX6_leastLanes 12 ls [.ref a, .int x1] h = (C_ d mJ2_size [.ref a] h).bind fun r => E_ (d + 1) mX6_leastLanes 15 ls (xpu r.1 [.int x1]) r.2 := e_vir dX6_leastLanes_12 rfl rfl rfl rfl rfl rfl (Nat.le_of_ble_eq_true rfl) (Nat.le_of_ble_eq_true rfl) ht
theorem wX6_leastLanes_15 : E_ d mX6_leastLanes 15 ls (.int y :: .int x :: st) h = if x < y then E_ d mX6_leastLanes 18 ls st h else E_ d mX6_leastLanes 48 ls st h := e_ige dX6_leastLanes_15 rfl rfl
theorem wX6_leastLanes_18 : E_ d mX6_leastLanes 18 [s0, .val (.int x), s2] st h = E_ d mX6_leastLanes 19 [s0, .val (.int x), s2] (.int x :: st) h := e_go dX6_leastLanes_18 rfl rfl
theorem wX6_leastLanes_19 : E_ d mX6_leastLanes 19 [.val (.ref a), s1, s2] st h = E_ d mX6_leastLanes 20 [.val (.ref a), s1, s2] (.ref a :: st) h := e_go dX6_leastLanes_19 rfl rfl
theorem wX6_leastLanes_19q : E_ d mX6_leastLanes 19 [.val (va_rf q), s1, s2] st h = E_ d mX6_leastLanes 20 [.val (va_rf q), s1, s2] (va_rf q :: st) h := by cases q <;> exact e_go dX6_leastLanes_19 rfl rfl
theorem wX6_leastLanes_19n : E_ d mX6_leastLanes 19 [.val .null, s1, s2] st h = E_ d mX6_leastLanes 20 [.val .null, s1, s2] (.null :: st) h := e_go dX6_leastLanes_19 rfl rfl
theorem wX6_leastLanes_20 (ht : oT h a = 8) : E_ d mX6_leastLanes 20 ls (.ref a :: st) h = E_ d mX6_leastLanes 23 ls (va_rf (oR h a 1) :: st) h := e_getR0 dX6_leastLanes_20 rfl rfl ht
theorem wX6_leastLanes_23 (ht : oT h a = 3) : E_ d mX6_leastLanes 23 ls (.ref a :: st) h = E_ d mX6_leastLanes 26 ls (va_rf (oR h a 0) :: st) h := e_getR0 dX6_leastLanes_23 rfl rfl ht
theorem wX6_leastLanes_26 : E_ d mX6_leastLanes 26 [s0, s1, .val (.int x)] st h = E_ d mX6_leastLanes 27 [s0, s1, .val (.int x)] (.int x :: st) h := e_go dX6_leastLanes_26 rfl rfl
theorem wX6_leastLanes_27 (ht : oT h a = 4) : E_ (d + 1) mX6_leastLanes 27 ls [.int x1, .ref a, .int x2] h = (C_ d mJ2_get [.ref a, .int x1] h).bind fun r => E_ (d + 1) mX6_leastLanes 30 ls (xpu r.1 [.int x2]) r.2 := e_vir dX6_leastLanes_27 rfl rfl rfl rfl rfl rfl (Nat.le_of_ble_eq_true rfl) (Nat.le_of_ble_eq_true rfl) ht
theorem wX6_leastLanes_30 (ht : oT h a = 9) : E_ d mX6_leastLanes 30 ls (.ref a :: st) h = E_ d mX6_leastLanes 33 ls (.ref a :: st) h := e_cast dX6_leastLanes_30 rfl rfl ht
theorem wX6_leastLanes_30n : E_ d mX6_leastLanes 30 ls (.null :: st) h = E_ d mX6_leastLanes 33 ls (.null :: st) h := e_go dX6_leastLanes_30 rfl rfl
theorem wX6_leastLanes_33 (ht : oT h a = 9) : E_ d mX6_leastLanes 33 ls (.ref a :: st) h = E_ d mX6_leastLanes 36 ls (.int (oI h a 0) :: st) h := e_getI0 dX6_leastLanes_33 rfl rfl ht
theorem wX6_leastLanes_36 : E_ d mX6_leastLanes 36 ls st h = E_ d mX6_leastLanes 37 ls (.int (nI 1) :: st) h := e_iconst dX6_leastLanes_36 kiconst_1 rfl
theorem wX6_leastLanes_37 : E_ d mX6_leastLanes 37 ls (.int y :: .int x :: st) h = E_ d mX6_leastLanes 38 ls (.int (x + y) :: st) h := e_go dX6_leastLanes_37 rfl rfl
theorem wX6_leastLanes_38 : E_ d mX6_leastLanes 38 ls [.int x2, .int x1] h = (xP 6 [.int x1, .int x2] h).bind fun r => E_ d mX6_leastLanes 41 ls (xpu r.1 []) r.2 := e_staP dX6_leastLanes_38 rfl (Nat.le_of_ble_eq_true rfl) rfl rfl rfl (Nat.le_of_ble_eq_true rfl)
theorem wX6_leastLanes_41 : E_ d mX6_leastLanes 41 [s0, s1, s2] (.int x :: st) h = E_ d mX6_leastLanes 42 [xk s0, .val (.int x), s2] st h := e_go dX6_leastLanes_41 rfl rfl
theorem wX6_leastLanes_42 : E_ d mX6_leastLanes 42 [s0, s1, .val (.int x)] st h = E_ d mX6_leastLanes 45 [s0, xk s1, .val (.int (x + nI 1))] st h := by rw [← kiinc_1]; exact e_go dX6_leastLanes_42 rfl rfl
theorem wX6_leastLanes_45 : E_ d mX6_leastLanes 45 ls st h = E_ d mX6_leastLanes 4 ls st h := e_gt dX6_leastLanes_45 rfl
theorem wX6_leastLanes_48 : E_ d mX6_leastLanes 48 [s0, .val (.int x), s2] st h = E_ d mX6_leastLanes 49 [s0, .val (.int x), s2] (.int x :: st) h := e_go dX6_leastLanes_48 rfl rfl
theorem wX6_leastLanes_49 : E_ d mX6_leastLanes 49 ls [.int x] h = some (some (.int x), h) := e_rt dX6_leastLanes_49 rfl rfl
/-! FootOut$Reader.traitLine -/
theorem wX6_traitLine_0 : E_ d mX6_traitLine 0 [.val (.ref a), s1] st h = E_ d mX6_traitLine 1 [.val (.ref a), s1] (.ref a :: st) h := e_go dX6_traitLine_0 rfl rfl
theorem wX6_traitLine_0q : E_ d mX6_traitLine 0 [.val (va_rf q), s1] st h = E_ d mX6_traitLine 1 [.val (va_rf q), s1] (va_rf q :: st) h := by cases q <;> exact e_go dX6_traitLine_0 rfl rfl
theorem wX6_traitLine_0n : E_ d mX6_traitLine 0 [.val .null, s1] st h = E_ d mX6_traitLine 1 [.val .null, s1] (.null :: st) h := e_go dX6_traitLine_0 rfl rfl
theorem wX6_traitLine_1 (ht : oT h a = 8) : E_ (d + 1) mX6_traitLine 1 ls [.ref a] h = (C_ d mX6_trait [.ref a] h).bind fun r => E_ (d + 1) mX6_traitLine 4 ls (xpu r.1 []) r.2 := e_vir dX6_traitLine_1 rfl rfl rfl rfl rfl rfl (Nat.le_of_ble_eq_true rfl) (Nat.le_of_ble_eq_true rfl) ht
theorem wX6_traitLine_4 : E_ d mX6_traitLine 4 [s0, s1] (.int x :: st) h = E_ d mX6_traitLine 5 [xk s0, .val (.int x)] st h := e_go dX6_traitLine_4 rfl rfl
theorem wX6_traitLine_5 : E_ d mX6_traitLine 5 [s0, .val (.int x)] st h = E_ d mX6_traitLine 6 [s0, .val (.int x)] (.int x :: st) h := e_go dX6_traitLine_5 rfl rfl
theorem wX6_traitLine_6 : E_ d mX6_traitLine 6 ls st h = E_ d mX6_traitLine 7 ls (.int ((-1)) :: st) h := e_iconst dX6_traitLine_6 kiconst_m1 rfl
theorem wX6_traitLine_7 : E_ d mX6_traitLine 7 ls (.int y :: .int x :: st) h = if x = y then E_ d mX6_traitLine 10 ls st h else E_ d mX6_traitLine 18 ls st h := e_ine dX6_traitLine_7 rfl rfl
theorem wX6_traitLine_10 : E_ d mX6_traitLine 10 [.val (.ref a), s1] st h = E_ d mX6_traitLine 11 [.val (.ref a), s1] (.ref a :: st) h := e_go dX6_traitLine_10 rfl rfl
theorem wX6_traitLine_10q : E_ d mX6_traitLine 10 [.val (va_rf q), s1] st h = E_ d mX6_traitLine 11 [.val (va_rf q), s1] (va_rf q :: st) h := by cases q <;> exact e_go dX6_traitLine_10 rfl rfl
theorem wX6_traitLine_10n : E_ d mX6_traitLine 10 [.val .null, s1] st h = E_ d mX6_traitLine 11 [.val .null, s1] (.null :: st) h := e_go dX6_traitLine_10 rfl rfl
theorem wX6_traitLine_11 : E_ d mX6_traitLine 11 ls st h = E_ d mX6_traitLine 12 ls (.int (nI 2) :: st) h := e_iconst dX6_traitLine_11 kiconst_2 rfl
theorem wX6_traitLine_12 (ht : oT h a = 8) : E_ (d + 1) mX6_traitLine 12 ls [.int x1, .ref a] h = (C_ d mX6_wrong [.ref a, .int x1] h).bind fun r => E_ (d + 1) mX6_traitLine 15 ls (xpu r.1 []) r.2 := e_vir dX6_traitLine_12 rfl rfl rfl rfl rfl rfl (Nat.le_of_ble_eq_true rfl) (Nat.le_of_ble_eq_true rfl) ht
theorem wX6_traitLine_15 : E_ d mX6_traitLine 15 ls st h = E_ d mX6_traitLine 33 ls st h := e_gt dX6_traitLine_15 rfl
theorem wX6_traitLine_18 : E_ d mX6_traitLine 18 [.val (.ref a), s1] st h = E_ d mX6_traitLine 19 [.val (.ref a), s1] (.ref a :: st) h := e_go dX6_traitLine_18 rfl rfl
theorem wX6_traitLine_18q : E_ d mX6_traitLine 18 [.val (va_rf q), s1] st h = E_ d mX6_traitLine 19 [.val (va_rf q), s1] (va_rf q :: st) h := by cases q <;> exact e_go dX6_traitLine_18 rfl rfl
theorem wX6_traitLine_18n : E_ d mX6_traitLine 18 [.val .null, s1] st h = E_ d mX6_traitLine 19 [.val .null, s1] (.null :: st) h := e_go dX6_traitLine_18 rfl rfl
theorem wX6_traitLine_19 (ht : oT h a = 8) : E_ d mX6_traitLine 19 ls (.ref a :: st) h = E_ d mX6_traitLine 22 ls (va_rf (oR h a 1) :: st) h := e_getR0 dX6_traitLine_19 rfl rfl ht
theorem wX6_traitLine_22 : E_ d mX6_traitLine 22 ls (.ref a :: st) h = E_ d mX6_traitLine 23 ls (.ref a :: .ref a :: st) h := e_go dX6_traitLine_22 rfl rfl
theorem wX6_traitLine_23 (ht : oT h a = 3) : E_ d mX6_traitLine 23 ls (.ref a :: st) h = E_ d mX6_traitLine 26 ls (.int (oI h a 2) :: st) h := e_getI dX6_traitLine_23 rfl rfl ht
theorem wX6_traitLine_26 : E_ d mX6_traitLine 26 ls st h = E_ d mX6_traitLine 27 ls (.int (nI 1) :: st) h := e_iconst dX6_traitLine_26 kiconst_1 rfl
theorem wX6_traitLine_27 : E_ d mX6_traitLine 27 [s0, .val (.int x)] st h = E_ d mX6_traitLine 28 [s0, .val (.int x)] (.int x :: st) h := e_go dX6_traitLine_27 rfl rfl
theorem wX6_traitLine_28 : E_ d mX6_traitLine 28 ls (.int y :: .int x :: st) h = E_ d mX6_traitLine 29 ls (.int (x <<< (y &&& 31)) :: st) h := e_go dX6_traitLine_28 rfl rfl
theorem wX6_traitLine_29 : E_ d mX6_traitLine 29 ls (.int y :: .int x :: st) h = E_ d mX6_traitLine 30 ls (.int (x ||| y) :: st) h := e_go dX6_traitLine_29 rfl rfl
theorem wX6_traitLine_30 (ht : oT h a = 3) : E_ d mX6_traitLine 30 ls (.int x :: .ref a :: st) h = E_ d mX6_traitLine 33 ls st (pI h a (va_up (oI h a) 2 x)) := e_putI dX6_traitLine_30 rfl rfl ht
theorem wX6_traitLine_33 : E_ d mX6_traitLine 33 ls [] h = some (none, h) := e_rt dX6_traitLine_33 rfl rfl
/-! FootOut$Reader.trait -/
theorem wX6_trait_0 : E_ d mX6_trait 0 [.val (.ref a)] st h = E_ d mX6_trait 1 [.val (.ref a)] (.ref a :: st) h := e_go dX6_trait_0 rfl rfl
theorem wX6_trait_0q : E_ d mX6_trait 0 [.val (va_rf q)] st h = E_ d mX6_trait 1 [.val (va_rf q)] (va_rf q :: st) h := by cases q <;> exact e_go dX6_trait_0 rfl rfl
theorem wX6_trait_0n : E_ d mX6_trait 0 [.val .null] st h = E_ d mX6_trait 1 [.val .null] (.null :: st) h := e_go dX6_trait_0 rfl rfl
theorem wX6_trait_1 : E_ d mX6_trait 1 ls st h = E_ d mX6_trait 3 ls (.ref 10 :: st) h := e_go dX6_trait_1 rfl rfl
theorem wX6_trait_3 (ht : oT h a = 8) : E_ (d + 1) mX6_trait 3 ls [.ref r1, .ref a] h = (C_ d mX6_takes [.ref a, .ref r1] h).bind fun r => E_ (d + 1) mX6_trait 6 ls (xpu r.1 []) r.2 := e_vir dX6_trait_3 rfl rfl rfl rfl rfl rfl (Nat.le_of_ble_eq_true rfl) (Nat.le_of_ble_eq_true rfl) ht
theorem wX6_trait_6 : E_ d mX6_trait 6 ls (.int x :: st) h = if x = 0 then E_ d mX6_trait 11 ls st h else E_ d mX6_trait 9 ls st h := e_zeq dX6_trait_6 rfl rfl
theorem wX6_trait_9 : E_ d mX6_trait 9 ls st h = E_ d mX6_trait 10 ls (.int (nI 0) :: st) h := e_iconst dX6_trait_9 kiconst_0 rfl
theorem wX6_trait_10 : E_ d mX6_trait 10 ls [.int x] h = some (some (.int x), h) := e_rt dX6_trait_10 rfl rfl
theorem wX6_trait_11 : E_ d mX6_trait 11 [.val (.ref a)] st h = E_ d mX6_trait 12 [.val (.ref a)] (.ref a :: st) h := e_go dX6_trait_11 rfl rfl
theorem wX6_trait_11q : E_ d mX6_trait 11 [.val (va_rf q)] st h = E_ d mX6_trait 12 [.val (va_rf q)] (va_rf q :: st) h := by cases q <;> exact e_go dX6_trait_11 rfl rfl
theorem wX6_trait_11n : E_ d mX6_trait 11 [.val .null] st h = E_ d mX6_trait 12 [.val .null] (.null :: st) h := e_go dX6_trait_11 rfl rfl
theorem wX6_trait_12 : E_ d mX6_trait 12 ls st h = E_ d mX6_trait 14 ls (.ref 11 :: st) h := e_go dX6_trait_12 rfl rfl
theorem wX6_trait_14 (ht : oT h a = 8) : E_ (d + 1) mX6_trait 14 ls [.ref r1, .ref a] h = (C_ d mX6_takes [.ref a, .ref r1] h).bind fun r => E_ (d + 1) mX6_trait 17 ls (xpu r.1 []) r.2 := e_vir dX6_trait_14 rfl rfl rfl rfl rfl rfl (Nat.le_of_ble_eq_true rfl) (Nat.le_of_ble_eq_true rfl) ht
theorem wX6_trait_17 : E_ d mX6_trait 17 ls (.int x :: st) h = if x = 0 then E_ d mX6_trait 22 ls st h else E_ d mX6_trait 20 ls st h := e_zeq dX6_trait_17 rfl rfl
theorem wX6_trait_20 : E_ d mX6_trait 20 ls st h = E_ d mX6_trait 21 ls (.int (nI 1) :: st) h := e_iconst dX6_trait_20 kiconst_1 rfl
theorem wX6_trait_21 : E_ d mX6_trait 21 ls [.int x] h = some (some (.int x), h) := e_rt dX6_trait_21 rfl rfl
theorem wX6_trait_22 : E_ d mX6_trait 22 [.val (.ref a)] st h = E_ d mX6_trait 23 [.val (.ref a)] (.ref a :: st) h := e_go dX6_trait_22 rfl rfl
theorem wX6_trait_22q : E_ d mX6_trait 22 [.val (va_rf q)] st h = E_ d mX6_trait 23 [.val (va_rf q)] (va_rf q :: st) h := by cases q <;> exact e_go dX6_trait_22 rfl rfl
theorem wX6_trait_22n : E_ d mX6_trait 22 [.val .null] st h = E_ d mX6_trait 23 [.val .null] (.null :: st) h := e_go dX6_trait_22 rfl rfl
theorem wX6_trait_23 : E_ d mX6_trait 23 ls st h = E_ d mX6_trait 25 ls (.ref 12 :: st) h := e_go dX6_trait_23 rfl rfl
theorem wX6_trait_25 (ht : oT h a = 8) : E_ (d + 1) mX6_trait 25 ls [.ref r1, .ref a] h = (C_ d mX6_takes [.ref a, .ref r1] h).bind fun r => E_ (d + 1) mX6_trait 28 ls (xpu r.1 []) r.2 := e_vir dX6_trait_25 rfl rfl rfl rfl rfl rfl (Nat.le_of_ble_eq_true rfl) (Nat.le_of_ble_eq_true rfl) ht
theorem wX6_trait_28 : E_ d mX6_trait 28 ls (.int x :: st) h = if x = 0 then E_ d mX6_trait 33 ls st h else E_ d mX6_trait 31 ls st h := e_zeq dX6_trait_28 rfl rfl
theorem wX6_trait_31 : E_ d mX6_trait 31 ls st h = E_ d mX6_trait 32 ls (.int (nI 2) :: st) h := e_iconst dX6_trait_31 kiconst_2 rfl
theorem wX6_trait_32 : E_ d mX6_trait 32 ls [.int x] h = some (some (.int x), h) := e_rt dX6_trait_32 rfl rfl
theorem wX6_trait_33 : E_ d mX6_trait 33 [.val (.ref a)] st h = E_ d mX6_trait 34 [.val (.ref a)] (.ref a :: st) h := e_go dX6_trait_33 rfl rfl
theorem wX6_trait_33q : E_ d mX6_trait 33 [.val (va_rf q)] st h = E_ d mX6_trait 34 [.val (va_rf q)] (va_rf q :: st) h := by cases q <;> exact e_go dX6_trait_33 rfl rfl
theorem wX6_trait_33n : E_ d mX6_trait 33 [.val .null] st h = E_ d mX6_trait 34 [.val .null] (.null :: st) h := e_go dX6_trait_33 rfl rfl
theorem wX6_trait_34 : E_ d mX6_trait 34 ls st h = E_ d mX6_trait 36 ls (.ref 13 :: st) h := e_go dX6_trait_34 rfl rfl
theorem wX6_trait_36 (ht : oT h a = 8) : E_ (d + 1) mX6_trait 36 ls [.ref r1, .ref a] h = (C_ d mX6_takes [.ref a, .ref r1] h).bind fun r => E_ (d + 1) mX6_trait 39 ls (xpu r.1 []) r.2 := e_vir dX6_trait_36 rfl rfl rfl rfl rfl rfl (Nat.le_of_ble_eq_true rfl) (Nat.le_of_ble_eq_true rfl) ht
theorem wX6_trait_39 : E_ d mX6_trait 39 ls (.int x :: st) h = if x = 0 then E_ d mX6_trait 44 ls st h else E_ d mX6_trait 42 ls st h := e_zeq dX6_trait_39 rfl rfl
theorem wX6_trait_42 : E_ d mX6_trait 42 ls st h = E_ d mX6_trait 43 ls (.int (nI 3) :: st) h := e_iconst dX6_trait_42 kiconst_3 rfl
theorem wX6_trait_43 : E_ d mX6_trait 43 ls [.int x] h = some (some (.int x), h) := e_rt dX6_trait_43 rfl rfl
theorem wX6_trait_44 : E_ d mX6_trait 44 [.val (.ref a)] st h = E_ d mX6_trait 45 [.val (.ref a)] (.ref a :: st) h := e_go dX6_trait_44 rfl rfl
theorem wX6_trait_44q : E_ d mX6_trait 44 [.val (va_rf q)] st h = E_ d mX6_trait 45 [.val (va_rf q)] (va_rf q :: st) h := by cases q <;> exact e_go dX6_trait_44 rfl rfl
theorem wX6_trait_44n : E_ d mX6_trait 44 [.val .null] st h = E_ d mX6_trait 45 [.val .null] (.null :: st) h := e_go dX6_trait_44 rfl rfl
theorem wX6_trait_45 : E_ d mX6_trait 45 ls st h = E_ d mX6_trait 47 ls (.ref 14 :: st) h := e_go dX6_trait_45 rfl rfl
theorem wX6_trait_47 (ht : oT h a = 8) : E_ (d + 1) mX6_trait 47 ls [.ref r1, .ref a] h = (C_ d mX6_takes [.ref a, .ref r1] h).bind fun r => E_ (d + 1) mX6_trait 50 ls (xpu r.1 []) r.2 := e_vir dX6_trait_47 rfl rfl rfl rfl rfl rfl (Nat.le_of_ble_eq_true rfl) (Nat.le_of_ble_eq_true rfl) ht
theorem wX6_trait_50 : E_ d mX6_trait 50 ls (.int x :: st) h = if x = 0 then E_ d mX6_trait 55 ls st h else E_ d mX6_trait 53 ls st h := e_zeq dX6_trait_50 rfl rfl
theorem wX6_trait_53 : E_ d mX6_trait 53 ls st h = E_ d mX6_trait 54 ls (.int (nI 4) :: st) h := e_iconst dX6_trait_53 kiconst_4 rfl
theorem wX6_trait_54 : E_ d mX6_trait 54 ls [.int x] h = some (some (.int x), h) := e_rt dX6_trait_54 rfl rfl
theorem wX6_trait_55 : E_ d mX6_trait 55 [.val (.ref a)] st h = E_ d mX6_trait 56 [.val (.ref a)] (.ref a :: st) h := e_go dX6_trait_55 rfl rfl
theorem wX6_trait_55q : E_ d mX6_trait 55 [.val (va_rf q)] st h = E_ d mX6_trait 56 [.val (va_rf q)] (va_rf q :: st) h := by cases q <;> exact e_go dX6_trait_55 rfl rfl
theorem wX6_trait_55n : E_ d mX6_trait 55 [.val .null] st h = E_ d mX6_trait 56 [.val .null] (.null :: st) h := e_go dX6_trait_55 rfl rfl
theorem wX6_trait_56 : E_ d mX6_trait 56 ls st h = E_ d mX6_trait 58 ls (.ref 15 :: st) h := e_go dX6_trait_56 rfl rfl
theorem wX6_trait_58 (ht : oT h a = 8) : E_ (d + 1) mX6_trait 58 ls [.ref r1, .ref a] h = (C_ d mX6_takes [.ref a, .ref r1] h).bind fun r => E_ (d + 1) mX6_trait 61 ls (xpu r.1 []) r.2 := e_vir dX6_trait_58 rfl rfl rfl rfl rfl rfl (Nat.le_of_ble_eq_true rfl) (Nat.le_of_ble_eq_true rfl) ht
theorem wX6_trait_61 : E_ d mX6_trait 61 ls (.int x :: st) h = if x = 0 then E_ d mX6_trait 66 ls st h else E_ d mX6_trait 64 ls st h := e_zeq dX6_trait_61 rfl rfl
theorem wX6_trait_64 : E_ d mX6_trait 64 ls st h = E_ d mX6_trait 65 ls (.int (nI 5) :: st) h := e_iconst dX6_trait_64 kiconst_5 rfl
theorem wX6_trait_65 : E_ d mX6_trait 65 ls [.int x] h = some (some (.int x), h) := e_rt dX6_trait_65 rfl rfl
theorem wX6_trait_66 : E_ d mX6_trait 66 [.val (.ref a)] st h = E_ d mX6_trait 67 [.val (.ref a)] (.ref a :: st) h := e_go dX6_trait_66 rfl rfl
theorem wX6_trait_66q : E_ d mX6_trait 66 [.val (va_rf q)] st h = E_ d mX6_trait 67 [.val (va_rf q)] (va_rf q :: st) h := by cases q <;> exact e_go dX6_trait_66 rfl rfl
theorem wX6_trait_66n : E_ d mX6_trait 66 [.val .null] st h = E_ d mX6_trait 67 [.val .null] (.null :: st) h := e_go dX6_trait_66 rfl rfl
theorem wX6_trait_67 : E_ d mX6_trait 67 ls st h = E_ d mX6_trait 69 ls (.ref 16 :: st) h := e_go dX6_trait_67 rfl rfl
theorem wX6_trait_69 (ht : oT h a = 8) : E_ (d + 1) mX6_trait 69 ls [.ref r1, .ref a] h = (C_ d mX6_takes [.ref a, .ref r1] h).bind fun r => E_ (d + 1) mX6_trait 72 ls (xpu r.1 []) r.2 := e_vir dX6_trait_69 rfl rfl rfl rfl rfl rfl (Nat.le_of_ble_eq_true rfl) (Nat.le_of_ble_eq_true rfl) ht
theorem wX6_trait_72 : E_ d mX6_trait 72 ls (.int x :: st) h = if x = 0 then E_ d mX6_trait 80 ls st h else E_ d mX6_trait 75 ls st h := e_zeq dX6_trait_72 rfl rfl
theorem wX6_trait_75 : E_ d mX6_trait 75 ls st h = E_ d mX6_trait 77 ls (.int (nI 6) :: st) h := e_bipush dX6_trait_75 kbipush_6 rfl
theorem wX6_trait_77 : E_ d mX6_trait 77 ls st h = E_ d mX6_trait 95 ls st h := e_gt dX6_trait_77 rfl
theorem wX6_trait_80 : E_ d mX6_trait 80 [.val (.ref a)] st h = E_ d mX6_trait 81 [.val (.ref a)] (.ref a :: st) h := e_go dX6_trait_80 rfl rfl
theorem wX6_trait_80q : E_ d mX6_trait 80 [.val (va_rf q)] st h = E_ d mX6_trait 81 [.val (va_rf q)] (va_rf q :: st) h := by cases q <;> exact e_go dX6_trait_80 rfl rfl
theorem wX6_trait_80n : E_ d mX6_trait 80 [.val .null] st h = E_ d mX6_trait 81 [.val .null] (.null :: st) h := e_go dX6_trait_80 rfl rfl
theorem wX6_trait_81 : E_ d mX6_trait 81 ls st h = E_ d mX6_trait 83 ls (.ref 17 :: st) h := e_go dX6_trait_81 rfl rfl
theorem wX6_trait_83 (ht : oT h a = 8) : E_ (d + 1) mX6_trait 83 ls [.ref r1, .ref a] h = (C_ d mX6_takes [.ref a, .ref r1] h).bind fun r => E_ (d + 1) mX6_trait 86 ls (xpu r.1 []) r.2 := e_vir dX6_trait_83 rfl rfl rfl rfl rfl rfl (Nat.le_of_ble_eq_true rfl) (Nat.le_of_ble_eq_true rfl) ht
theorem wX6_trait_86 : E_ d mX6_trait 86 ls (.int x :: st) h = if x = 0 then E_ d mX6_trait 94 ls st h else E_ d mX6_trait 89 ls st h := e_zeq dX6_trait_86 rfl rfl
theorem wX6_trait_89 : E_ d mX6_trait 89 ls st h = E_ d mX6_trait 91 ls (.int (nI 7) :: st) h := e_bipush dX6_trait_89 kbipush_7 rfl
theorem wX6_trait_91 : E_ d mX6_trait 91 ls st h = E_ d mX6_trait 95 ls st h := e_gt dX6_trait_91 rfl
theorem wX6_trait_94 : E_ d mX6_trait 94 ls st h = E_ d mX6_trait 95 ls (.int ((-1)) :: st) h := e_iconst dX6_trait_94 kiconst_m1 rfl
theorem wX6_trait_95 : E_ d mX6_trait 95 ls [.int x] h = some (some (.int x), h) := e_rt dX6_trait_95 rfl rfl
/-! FootOut$Reader.over -/
theorem wX6_over_0 : E_ d mX6_over 0 [.val (.ref a)] st h = E_ d mX6_over 1 [.val (.ref a)] (.ref a :: st) h := e_go dX6_over_0 rfl rfl
theorem wX6_over_0q : E_ d mX6_over 0 [.val (va_rf q)] st h = E_ d mX6_over 1 [.val (va_rf q)] (va_rf q :: st) h := by cases q <;> exact e_go dX6_over_0 rfl rfl
theorem wX6_over_0n : E_ d mX6_over 0 [.val .null] st h = E_ d mX6_over 1 [.val .null] (.null :: st) h := e_go dX6_over_0 rfl rfl
theorem wX6_over_1 (ht : oT h a = 8) : E_ d mX6_over 1 ls (.ref a :: st) h = E_ d mX6_over 4 ls (.int (oI h a 8) :: st) h := e_getI dX6_over_1 rfl rfl ht
theorem wX6_over_4 : E_ d mX6_over 4 ls (.int x :: st) h = if x = 0 then E_ d mX6_over 7 ls st h else E_ d mX6_over 21 ls st h := e_zne dX6_over_4 rfl rfl
theorem wX6_over_7 : E_ d mX6_over 7 [.val (.ref a)] st h = E_ d mX6_over 8 [.val (.ref a)] (.ref a :: st) h := e_go dX6_over_7 rfl rfl
theorem wX6_over_7q : E_ d mX6_over 7 [.val (va_rf q)] st h = E_ d mX6_over 8 [.val (va_rf q)] (va_rf q :: st) h := by cases q <;> exact e_go dX6_over_7 rfl rfl
theorem wX6_over_7n : E_ d mX6_over 7 [.val .null] st h = E_ d mX6_over 8 [.val .null] (.null :: st) h := e_go dX6_over_7 rfl rfl
theorem wX6_over_8 (ht : oT h a = 8) : E_ d mX6_over 8 ls (.ref a :: st) h = E_ d mX6_over 11 ls (.int (oI h a 5) :: st) h := e_getI dX6_over_8 rfl rfl ht
theorem wX6_over_11 : E_ d mX6_over 11 ls st h = E_ d mX6_over 13 ls (.int (nI 59) :: st) h := e_bipush dX6_over_11 kbipush_59 rfl
theorem wX6_over_13 : E_ d mX6_over 13 ls (.int y :: .int x :: st) h = if x = y then E_ d mX6_over 21 ls st h else E_ d mX6_over 16 ls st h := e_ieq dX6_over_13 rfl rfl
theorem wX6_over_16 : E_ d mX6_over 16 [.val (.ref a)] st h = E_ d mX6_over 17 [.val (.ref a)] (.ref a :: st) h := e_go dX6_over_16 rfl rfl
theorem wX6_over_16q : E_ d mX6_over 16 [.val (va_rf q)] st h = E_ d mX6_over 17 [.val (va_rf q)] (va_rf q :: st) h := by cases q <;> exact e_go dX6_over_16 rfl rfl
theorem wX6_over_16n : E_ d mX6_over 16 [.val .null] st h = E_ d mX6_over 17 [.val .null] (.null :: st) h := e_go dX6_over_16 rfl rfl
theorem wX6_over_17 : E_ d mX6_over 17 ls st h = E_ d mX6_over 18 ls (.int (nI 2) :: st) h := e_iconst dX6_over_17 kiconst_2 rfl
theorem wX6_over_18 (ht : oT h a = 8) : E_ (d + 1) mX6_over 18 ls [.int x1, .ref a] h = (C_ d mX6_wrong [.ref a, .int x1] h).bind fun r => E_ (d + 1) mX6_over 21 ls (xpu r.1 []) r.2 := e_vir dX6_over_18 rfl rfl rfl rfl rfl rfl (Nat.le_of_ble_eq_true rfl) (Nat.le_of_ble_eq_true rfl) ht
theorem wX6_over_21 : E_ d mX6_over 21 [.val (.ref a)] st h = E_ d mX6_over 22 [.val (.ref a)] (.ref a :: st) h := e_go dX6_over_21 rfl rfl
theorem wX6_over_21q : E_ d mX6_over 21 [.val (va_rf q)] st h = E_ d mX6_over 22 [.val (va_rf q)] (va_rf q :: st) h := by cases q <;> exact e_go dX6_over_21 rfl rfl
theorem wX6_over_21n : E_ d mX6_over 21 [.val .null] st h = E_ d mX6_over 22 [.val .null] (.null :: st) h := e_go dX6_over_21 rfl rfl
theorem wX6_over_22 (ht : oT h a = 8) : E_ d mX6_over 22 ls (.ref a :: st) h = E_ d mX6_over 25 ls (.int (oI h a 8) :: st) h := e_getI dX6_over_22 rfl rfl ht
theorem wX6_over_25 : E_ d mX6_over 25 ls (.int x :: st) h = if x = 0 then E_ d mX6_over 28 ls st h else E_ d mX6_over 32 ls st h := e_zne dX6_over_25 rfl rfl
theorem wX6_over_28 : E_ d mX6_over 28 [.val (.ref a)] st h = E_ d mX6_over 29 [.val (.ref a)] (.ref a :: st) h := e_go dX6_over_28 rfl rfl
theorem wX6_over_28q : E_ d mX6_over 28 [.val (va_rf q)] st h = E_ d mX6_over 29 [.val (va_rf q)] (va_rf q :: st) h := by cases q <;> exact e_go dX6_over_28 rfl rfl
theorem wX6_over_28n : E_ d mX6_over 28 [.val .null] st h = E_ d mX6_over 29 [.val .null] (.null :: st) h := e_go dX6_over_28 rfl rfl
theorem wX6_over_29 (ht : oT h a = 8) : E_ (d + 1) mX6_over 29 ls [.ref a] h = (C_ d mX6_next [.ref a] h).bind fun r => E_ (d + 1) mX6_over 32 ls (xpu r.1 []) r.2 := e_vir dX6_over_29 rfl rfl rfl rfl rfl rfl (Nat.le_of_ble_eq_true rfl) (Nat.le_of_ble_eq_true rfl) ht
theorem wX6_over_32 : E_ d mX6_over 32 ls [] h = some (none, h) := e_rt dX6_over_32 rfl rfl
/-! FootOut$Reader.law -/
theorem wX6_law_0 : E_ d mX6_law 0 [.val (.ref a), s1, s2] st h = E_ d mX6_law 1 [.val (.ref a), s1, s2] (.ref a :: st) h := e_go dX6_law_0 rfl rfl
theorem wX6_law_0q : E_ d mX6_law 0 [.val (va_rf q), s1, s2] st h = E_ d mX6_law 1 [.val (va_rf q), s1, s2] (va_rf q :: st) h := by cases q <;> exact e_go dX6_law_0 rfl rfl
theorem wX6_law_0n : E_ d mX6_law 0 [.val .null, s1, s2] st h = E_ d mX6_law 1 [.val .null, s1, s2] (.null :: st) h := e_go dX6_law_0 rfl rfl
theorem wX6_law_1 (ht : oT h a = 8) : E_ (d + 1) mX6_law 1 ls [.ref a] h = (C_ d mX6_next [.ref a] h).bind fun r => E_ (d + 1) mX6_law 4 ls (xpu r.1 []) r.2 := e_vir dX6_law_1 rfl rfl rfl rfl rfl rfl (Nat.le_of_ble_eq_true rfl) (Nat.le_of_ble_eq_true rfl) ht
theorem wX6_law_4 : E_ d mX6_law 4 [.val (.ref a), s1, s2] st h = E_ d mX6_law 5 [.val (.ref a), s1, s2] (.ref a :: st) h := e_go dX6_law_4 rfl rfl
theorem wX6_law_4q : E_ d mX6_law 4 [.val (va_rf q), s1, s2] st h = E_ d mX6_law 5 [.val (va_rf q), s1, s2] (va_rf q :: st) h := by cases q <;> exact e_go dX6_law_4 rfl rfl
theorem wX6_law_4n : E_ d mX6_law 4 [.val .null, s1, s2] st h = E_ d mX6_law 5 [.val .null, s1, s2] (.null :: st) h := e_go dX6_law_4 rfl rfl
theorem wX6_law_5 (ht : oT h a = 8) : E_ d mX6_law 5 ls (.ref a :: st) h = E_ d mX6_law 8 ls (.int (oI h a 8) :: st) h := e_getI dX6_law_5 rfl rfl ht
theorem wX6_law_8 : E_ d mX6_law 8 ls (.int x :: st) h = if x = 0 then E_ d mX6_law 11 ls st h else E_ d mX6_law 111 ls st h := e_zne dX6_law_8 rfl rfl
theorem wX6_law_11 : E_ d mX6_law 11 [.val (.ref a), s1, s2] st h = E_ d mX6_law 12 [.val (.ref a), s1, s2] (.ref a :: st) h := e_go dX6_law_11 rfl rfl
theorem wX6_law_11q : E_ d mX6_law 11 [.val (va_rf q), s1, s2] st h = E_ d mX6_law 12 [.val (va_rf q), s1, s2] (va_rf q :: st) h := by cases q <;> exact e_go dX6_law_11 rfl rfl
theorem wX6_law_11n : E_ d mX6_law 11 [.val .null, s1, s2] st h = E_ d mX6_law 12 [.val .null, s1, s2] (.null :: st) h := e_go dX6_law_11 rfl rfl
theorem wX6_law_12 (ht : oT h a = 8) : E_ d mX6_law 12 ls (.ref a :: st) h = E_ d mX6_law 15 ls (.int (oI h a 5) :: st) h := e_getI dX6_law_12 rfl rfl ht
theorem wX6_law_15 : E_ d mX6_law 15 ls (.int x :: st) h = if x = 0 then E_ d mX6_law 111 ls st h else E_ d mX6_law 18 ls st h := e_zeq dX6_law_15 rfl rfl
theorem wX6_law_18 : E_ d mX6_law 18 [.val (.ref a), s1, s2] st h = E_ d mX6_law 19 [.val (.ref a), s1, s2] (.ref a :: st) h := e_go dX6_law_18 rfl rfl
theorem wX6_law_18q : E_ d mX6_law 18 [.val (va_rf q), s1, s2] st h = E_ d mX6_law 19 [.val (va_rf q), s1, s2] (va_rf q :: st) h := by cases q <;> exact e_go dX6_law_18 rfl rfl
theorem wX6_law_18n : E_ d mX6_law 18 [.val .null, s1, s2] st h = E_ d mX6_law 19 [.val .null, s1, s2] (.null :: st) h := e_go dX6_law_18 rfl rfl
theorem wX6_law_19 : E_ d mX6_law 19 ls st h = E_ d mX6_law 21 ls (.ref 18 :: st) h := e_go dX6_law_19 rfl rfl
theorem wX6_law_21 (ht : oT h a = 8) : E_ (d + 1) mX6_law 21 ls [.ref r1, .ref a] h = (C_ d mX6_is [.ref a, .ref r1] h).bind fun r => E_ (d + 1) mX6_law 24 ls (xpu r.1 []) r.2 := e_vir dX6_law_21 rfl rfl rfl rfl rfl rfl (Nat.le_of_ble_eq_true rfl) (Nat.le_of_ble_eq_true rfl) ht
theorem wX6_law_24 : E_ d mX6_law 24 ls (.int x :: st) h = if x = 0 then E_ d mX6_law 27 ls st h else E_ d mX6_law 32 ls st h := e_zne dX6_law_24 rfl rfl
theorem wX6_law_27 : E_ d mX6_law 27 [.val (.ref a), s1, s2] st h = E_ d mX6_law 28 [.val (.ref a), s1, s2] (.ref a :: st) h := e_go dX6_law_27 rfl rfl
theorem wX6_law_27q : E_ d mX6_law 27 [.val (va_rf q), s1, s2] st h = E_ d mX6_law 28 [.val (va_rf q), s1, s2] (va_rf q :: st) h := by cases q <;> exact e_go dX6_law_27 rfl rfl
theorem wX6_law_27n : E_ d mX6_law 27 [.val .null, s1, s2] st h = E_ d mX6_law 28 [.val .null, s1, s2] (.null :: st) h := e_go dX6_law_27 rfl rfl
theorem wX6_law_28 : E_ d mX6_law 28 ls st h = E_ d mX6_law 29 ls (.int (nI 2) :: st) h := e_iconst dX6_law_28 kiconst_2 rfl
theorem wX6_law_29 (ht : oT h a = 8) : E_ (d + 1) mX6_law 29 ls [.int x1, .ref a] h = (C_ d mX6_wrong [.ref a, .int x1] h).bind fun r => E_ (d + 1) mX6_law 32 ls (xpu r.1 []) r.2 := e_vir dX6_law_29 rfl rfl rfl rfl rfl rfl (Nat.le_of_ble_eq_true rfl) (Nat.le_of_ble_eq_true rfl) ht
theorem wX6_law_32 : E_ d mX6_law 32 [.val (.ref a), s1, s2] st h = E_ d mX6_law 33 [.val (.ref a), s1, s2] (.ref a :: st) h := e_go dX6_law_32 rfl rfl
theorem wX6_law_32q : E_ d mX6_law 32 [.val (va_rf q), s1, s2] st h = E_ d mX6_law 33 [.val (va_rf q), s1, s2] (va_rf q :: st) h := by cases q <;> exact e_go dX6_law_32 rfl rfl
theorem wX6_law_32n : E_ d mX6_law 32 [.val .null, s1, s2] st h = E_ d mX6_law 33 [.val .null, s1, s2] (.null :: st) h := e_go dX6_law_32 rfl rfl
theorem wX6_law_33 (ht : oT h a = 8) : E_ d mX6_law 33 ls (.ref a :: st) h = E_ d mX6_law 36 ls (.int (oI h a 8) :: st) h := e_getI dX6_law_33 rfl rfl ht
theorem wX6_law_36 : E_ d mX6_law 36 ls (.int x :: st) h = if x = 0 then E_ d mX6_law 39 ls st h else E_ d mX6_law 60 ls st h := e_zne dX6_law_36 rfl rfl
theorem wX6_law_39 : E_ d mX6_law 39 [.val (.ref a), s1, s2] st h = E_ d mX6_law 40 [.val (.ref a), s1, s2] (.ref a :: st) h := e_go dX6_law_39 rfl rfl
theorem wX6_law_39q : E_ d mX6_law 39 [.val (va_rf q), s1, s2] st h = E_ d mX6_law 40 [.val (va_rf q), s1, s2] (va_rf q :: st) h := by cases q <;> exact e_go dX6_law_39 rfl rfl
theorem wX6_law_39n : E_ d mX6_law 39 [.val .null, s1, s2] st h = E_ d mX6_law 40 [.val .null, s1, s2] (.null :: st) h := e_go dX6_law_39 rfl rfl
theorem wX6_law_40 : E_ d mX6_law 40 [.val (.ref a), s1, s2] st h = E_ d mX6_law 41 [.val (.ref a), s1, s2] (.ref a :: st) h := e_go dX6_law_40 rfl rfl
theorem wX6_law_40q : E_ d mX6_law 40 [.val (va_rf q), s1, s2] st h = E_ d mX6_law 41 [.val (va_rf q), s1, s2] (va_rf q :: st) h := by cases q <;> exact e_go dX6_law_40 rfl rfl
theorem wX6_law_40n : E_ d mX6_law 40 [.val .null, s1, s2] st h = E_ d mX6_law 41 [.val .null, s1, s2] (.null :: st) h := e_go dX6_law_40 rfl rfl
theorem wX6_law_41 (ht : oT h a = 8) : E_ d mX6_law 41 ls (.ref a :: st) h = E_ d mX6_law 44 ls (va_rf (oR h a 2) :: st) h := e_getR0 dX6_law_41 rfl rfl ht
theorem wX6_law_44 (ht : oT h a = 4) : E_ (d + 1) mX6_law 44 ls [.ref a, .ref r1] h = (C_ d mJ2_size [.ref a] h).bind fun r => E_ (d + 1) mX6_law 47 ls (xpu r.1 [.ref r1]) r.2 := e_vir dX6_law_44 rfl rfl rfl rfl rfl rfl (Nat.le_of_ble_eq_true rfl) (Nat.le_of_ble_eq_true rfl) ht
theorem wX6_law_47 : E_ d mX6_law 47 ls st h = E_ d mX6_law 49 ls (.int (nI 12) :: st) h := e_bipush dX6_law_47 kbipush_12 rfl
theorem wX6_law_49 : E_ d mX6_law 49 ls (.int y :: .int x :: st) h = if x = y then E_ d mX6_law 52 ls st h else E_ d mX6_law 56 ls st h := e_ine dX6_law_49 rfl rfl
theorem wX6_law_52 : E_ d mX6_law 52 ls st h = E_ d mX6_law 53 ls (.int (nI 1) :: st) h := e_iconst dX6_law_52 kiconst_1 rfl
theorem wX6_law_53 : E_ d mX6_law 53 ls st h = E_ d mX6_law 57 ls st h := e_gt dX6_law_53 rfl
theorem wX6_law_56 : E_ d mX6_law 56 ls st h = E_ d mX6_law 57 ls (.int (nI 0) :: st) h := e_iconst dX6_law_56 kiconst_0 rfl
theorem wX6_law_57 (ht : oT h a = 8) : E_ (d + 1) mX6_law 57 ls [.int x1, .ref a] h = (C_ d mX6_space [.ref a, .int x1] h).bind fun r => E_ (d + 1) mX6_law 60 ls (xpu r.1 []) r.2 := e_vir dX6_law_57 rfl rfl rfl rfl rfl rfl (Nat.le_of_ble_eq_true rfl) (Nat.le_of_ble_eq_true rfl) ht
theorem wX6_law_60 : E_ d mX6_law 60 [.val (.ref a), s1, s2] st h = E_ d mX6_law 61 [.val (.ref a), s1, s2] (.ref a :: st) h := e_go dX6_law_60 rfl rfl
theorem wX6_law_60q : E_ d mX6_law 60 [.val (va_rf q), s1, s2] st h = E_ d mX6_law 61 [.val (va_rf q), s1, s2] (va_rf q :: st) h := by cases q <;> exact e_go dX6_law_60 rfl rfl
theorem wX6_law_60n : E_ d mX6_law 60 [.val .null, s1, s2] st h = E_ d mX6_law 61 [.val .null, s1, s2] (.null :: st) h := e_go dX6_law_60 rfl rfl
theorem wX6_law_61 : E_ d mX6_law 61 ls st h = E_ d mX6_law 62 ls (.int (nI 0) :: st) h := e_iconst dX6_law_61 kiconst_0 rfl
theorem wX6_law_62 : E_ d mX6_law 62 ls st h = E_ d mX6_law 64 ls (.int (nI 100) :: st) h := e_bipush dX6_law_62 kbipush_100 rfl
theorem wX6_law_64 (ht : oT h a = 8) : E_ (d + 1) mX6_law 64 ls [.int x2, .int x1, .ref a] h = (C_ d mX6_number [.ref a, .int x1, .int x2] h).bind fun r => E_ (d + 1) mX6_law 67 ls (xpu r.1 []) r.2 := e_vir dX6_law_64 rfl rfl rfl rfl rfl rfl (Nat.le_of_ble_eq_true rfl) (Nat.le_of_ble_eq_true rfl) ht
theorem wX6_law_67 : E_ d mX6_law 67 [s0, s1, s2] (.int x :: st) h = E_ d mX6_law 68 [xk s0, .val (.int x), s2] st h := e_go dX6_law_67 rfl rfl
theorem wX6_law_68 : E_ d mX6_law 68 [.val (.ref a), s1, s2] st h = E_ d mX6_law 69 [.val (.ref a), s1, s2] (.ref a :: st) h := e_go dX6_law_68 rfl rfl
theorem wX6_law_68q : E_ d mX6_law 68 [.val (va_rf q), s1, s2] st h = E_ d mX6_law 69 [.val (va_rf q), s1, s2] (va_rf q :: st) h := by cases q <;> exact e_go dX6_law_68 rfl rfl
theorem wX6_law_68n : E_ d mX6_law 68 [.val .null, s1, s2] st h = E_ d mX6_law 69 [.val .null, s1, s2] (.null :: st) h := e_go dX6_law_68 rfl rfl
theorem wX6_law_69 : E_ d mX6_law 69 ls st h = E_ d mX6_law 71 ls (.ref 19 :: st) h := e_go dX6_law_69 rfl rfl
theorem wX6_law_71 (ht : oT h a = 8) : E_ (d + 1) mX6_law 71 ls [.ref r1, .ref a] h = (C_ d mX6_takes [.ref a, .ref r1] h).bind fun r => E_ (d + 1) mX6_law 74 ls (xpu r.1 []) r.2 := e_vir dX6_law_71 rfl rfl rfl rfl rfl rfl (Nat.le_of_ble_eq_true rfl) (Nat.le_of_ble_eq_true rfl) ht
theorem wX6_law_74 : E_ d mX6_law 74 ls (.int x :: st) h = if x = 0 then E_ d mX6_law 77 ls st h else E_ d mX6_law 82 ls st h := e_zne dX6_law_74 rfl rfl
theorem wX6_law_77 : E_ d mX6_law 77 [.val (.ref a), s1, s2] st h = E_ d mX6_law 78 [.val (.ref a), s1, s2] (.ref a :: st) h := e_go dX6_law_77 rfl rfl
theorem wX6_law_77q : E_ d mX6_law 77 [.val (va_rf q), s1, s2] st h = E_ d mX6_law 78 [.val (va_rf q), s1, s2] (va_rf q :: st) h := by cases q <;> exact e_go dX6_law_77 rfl rfl
theorem wX6_law_77n : E_ d mX6_law 77 [.val .null, s1, s2] st h = E_ d mX6_law 78 [.val .null, s1, s2] (.null :: st) h := e_go dX6_law_77 rfl rfl
theorem wX6_law_78 : E_ d mX6_law 78 ls st h = E_ d mX6_law 79 ls (.int (nI 2) :: st) h := e_iconst dX6_law_78 kiconst_2 rfl
theorem wX6_law_79 (ht : oT h a = 8) : E_ (d + 1) mX6_law 79 ls [.int x1, .ref a] h = (C_ d mX6_wrong [.ref a, .int x1] h).bind fun r => E_ (d + 1) mX6_law 82 ls (xpu r.1 []) r.2 := e_vir dX6_law_79 rfl rfl rfl rfl rfl rfl (Nat.le_of_ble_eq_true rfl) (Nat.le_of_ble_eq_true rfl) ht
theorem wX6_law_82 : E_ d mX6_law 82 [.val (.ref a), s1, s2] st h = E_ d mX6_law 83 [.val (.ref a), s1, s2] (.ref a :: st) h := e_go dX6_law_82 rfl rfl
theorem wX6_law_82q : E_ d mX6_law 82 [.val (va_rf q), s1, s2] st h = E_ d mX6_law 83 [.val (va_rf q), s1, s2] (va_rf q :: st) h := by cases q <;> exact e_go dX6_law_82 rfl rfl
theorem wX6_law_82n : E_ d mX6_law 82 [.val .null, s1, s2] st h = E_ d mX6_law 83 [.val .null, s1, s2] (.null :: st) h := e_go dX6_law_82 rfl rfl
theorem wX6_law_83 (ht : oT h a = 8) : E_ (d + 1) mX6_law 83 ls [.ref a] h = (C_ d mX6_some [.ref a] h).bind fun r => E_ (d + 1) mX6_law 86 ls (xpu r.1 []) r.2 := e_vir dX6_law_83 rfl rfl rfl rfl rfl rfl (Nat.le_of_ble_eq_true rfl) (Nat.le_of_ble_eq_true rfl) ht
theorem wX6_law_86 : E_ d mX6_law 86 [s0, s1, s2] (.ref a :: st) h = E_ d mX6_law 87 [s0, xk s1, .val (.ref a)] st h := e_go dX6_law_86 rfl rfl
theorem wX6_law_86n : E_ d mX6_law 86 [s0, s1, s2] (.null :: st) h = E_ d mX6_law 87 [s0, xk s1, .val (.null)] st h := e_go dX6_law_86 rfl rfl
theorem wX6_law_86q : E_ d mX6_law 86 [s0, s1, s2] (va_rf q :: st) h = E_ d mX6_law 87 [s0, xk s1, .val (va_rf q)] st h := by cases q <;> exact e_go dX6_law_86 rfl rfl
theorem wX6_law_87 : E_ d mX6_law 87 [.val (.ref a), s1, s2] st h = E_ d mX6_law 88 [.val (.ref a), s1, s2] (.ref a :: st) h := e_go dX6_law_87 rfl rfl
theorem wX6_law_87q : E_ d mX6_law 87 [.val (va_rf q), s1, s2] st h = E_ d mX6_law 88 [.val (va_rf q), s1, s2] (va_rf q :: st) h := by cases q <;> exact e_go dX6_law_87 rfl rfl
theorem wX6_law_87n : E_ d mX6_law 87 [.val .null, s1, s2] st h = E_ d mX6_law 88 [.val .null, s1, s2] (.null :: st) h := e_go dX6_law_87 rfl rfl
theorem wX6_law_88 (ht : oT h a = 8) : E_ (d + 1) mX6_law 88 ls [.ref a] h = (C_ d mX6_over [.ref a] h).bind fun r => E_ (d + 1) mX6_law 91 ls (xpu r.1 []) r.2 := e_vir dX6_law_88 rfl rfl rfl rfl rfl rfl (Nat.le_of_ble_eq_true rfl) (Nat.le_of_ble_eq_true rfl) ht
theorem wX6_law_91 : E_ d mX6_law 91 [.val (.ref a), s1, s2] st h = E_ d mX6_law 92 [.val (.ref a), s1, s2] (.ref a :: st) h := e_go dX6_law_91 rfl rfl
theorem wX6_law_91q : E_ d mX6_law 91 [.val (va_rf q), s1, s2] st h = E_ d mX6_law 92 [.val (va_rf q), s1, s2] (va_rf q :: st) h := by cases q <;> exact e_go dX6_law_91 rfl rfl
theorem wX6_law_91n : E_ d mX6_law 91 [.val .null, s1, s2] st h = E_ d mX6_law 92 [.val .null, s1, s2] (.null :: st) h := e_go dX6_law_91 rfl rfl
theorem wX6_law_92 (ht : oT h a = 8) : E_ d mX6_law 92 ls (.ref a :: st) h = E_ d mX6_law 95 ls (va_rf (oR h a 2) :: st) h := e_getR0 dX6_law_92 rfl rfl ht
theorem wX6_law_95 : E_ d mX6_law 95 ls st h = E_ d mX6_law 98 ls (.ref (oX h) :: st) (pO h 18 2) := e_go dX6_law_95 rfl rfl
theorem wX6_law_98 : E_ d mX6_law 98 ls (.ref a :: st) h = E_ d mX6_law 99 ls (.ref a :: .ref a :: st) h := e_go dX6_law_98 rfl rfl
theorem wX6_law_99 : E_ d mX6_law 99 [s0, .val (.int x), s2] st h = E_ d mX6_law 100 [s0, .val (.int x), s2] (.int x :: st) h := e_go dX6_law_99 rfl rfl
theorem wX6_law_100 : E_ d mX6_law 100 [s0, s1, .val (.ref a)] st h = E_ d mX6_law 101 [s0, s1, .val (.ref a)] (.ref a :: st) h := e_go dX6_law_100 rfl rfl
theorem wX6_law_100q : E_ d mX6_law 100 [s0, s1, .val (va_rf q)] st h = E_ d mX6_law 101 [s0, s1, .val (va_rf q)] (va_rf q :: st) h := by cases q <;> exact e_go dX6_law_100 rfl rfl
theorem wX6_law_100n : E_ d mX6_law 100 [s0, s1, .val .null] st h = E_ d mX6_law 101 [s0, s1, .val .null] (.null :: st) h := e_go dX6_law_100 rfl rfl
theorem wX6_law_101 : E_ (d + 1) mX6_law 101 ls [.ref r1, .int x1, .ref a, .ref r2, .ref r3] h = (C_ d mX18_init [.ref a, .int x1, .ref r1] h).bind fun r => E_ (d + 1) mX6_law 104 ls (xpu r.1 [.ref r2, .ref r3]) r.2 := e_call dX6_law_101 rfl rfl
theorem wX6_law_104 (ht : oT h a = 4) : E_ (d + 1) mX6_law 104 ls [.ref r1, .ref a] h = (C_ d mJ2_add [.ref a, .ref r1] h).bind fun r => E_ (d + 1) mX6_law 107 ls (xpu r.1 []) r.2 := e_vir dX6_law_104 rfl rfl rfl rfl rfl rfl (Nat.le_of_ble_eq_true rfl) (Nat.le_of_ble_eq_true rfl) ht
theorem wX6_law_107 : E_ d mX6_law 107 ls (.int x :: st) h = E_ d mX6_law 108 ls st h := e_go dX6_law_107 rfl rfl
theorem wX6_law_108 : E_ d mX6_law 108 ls st h = E_ d mX6_law 4 ls st h := e_gt dX6_law_108 rfl
theorem wX6_law_111 : E_ d mX6_law 111 ls [] h = some (none, h) := e_rt dX6_law_111 rfl rfl
/-! FootOut$Reader.some -/
theorem wX6_some_0 : E_ d mX6_some 0 [.val (.ref a), s1] st h = E_ d mX6_some 1 [.val (.ref a), s1] (.ref a :: st) h := e_go dX6_some_0 rfl rfl
theorem wX6_some_0q : E_ d mX6_some 0 [.val (va_rf q), s1] st h = E_ d mX6_some 1 [.val (va_rf q), s1] (va_rf q :: st) h := by cases q <;> exact e_go dX6_some_0 rfl rfl
theorem wX6_some_0n : E_ d mX6_some 0 [.val .null, s1] st h = E_ d mX6_some 1 [.val .null, s1] (.null :: st) h := e_go dX6_some_0 rfl rfl
theorem wX6_some_1 (ht : oT h a = 8) : E_ (d + 1) mX6_some 1 ls [.ref a] h = (C_ d mX6_all [.ref a] h).bind fun r => E_ (d + 1) mX6_some 4 ls (xpu r.1 []) r.2 := e_vir dX6_some_1 rfl rfl rfl rfl rfl rfl (Nat.le_of_ble_eq_true rfl) (Nat.le_of_ble_eq_true rfl) ht
theorem wX6_some_4 : E_ d mX6_some 4 [s0, s1] (.ref a :: st) h = E_ d mX6_some 5 [xk s0, .val (.ref a)] st h := e_go dX6_some_4 rfl rfl
theorem wX6_some_4n : E_ d mX6_some 4 [s0, s1] (.null :: st) h = E_ d mX6_some 5 [xk s0, .val (.null)] st h := e_go dX6_some_4 rfl rfl
theorem wX6_some_4q : E_ d mX6_some 4 [s0, s1] (va_rf q :: st) h = E_ d mX6_some 5 [xk s0, .val (va_rf q)] st h := by cases q <;> exact e_go dX6_some_4 rfl rfl
theorem wX6_some_5 : E_ d mX6_some 5 [.val (.ref a), s1] st h = E_ d mX6_some 6 [.val (.ref a), s1] (.ref a :: st) h := e_go dX6_some_5 rfl rfl
theorem wX6_some_5q : E_ d mX6_some 5 [.val (va_rf q), s1] st h = E_ d mX6_some 6 [.val (va_rf q), s1] (va_rf q :: st) h := by cases q <;> exact e_go dX6_some_5 rfl rfl
theorem wX6_some_5n : E_ d mX6_some 5 [.val .null, s1] st h = E_ d mX6_some 6 [.val .null, s1] (.null :: st) h := e_go dX6_some_5 rfl rfl
theorem wX6_some_6 : E_ d mX6_some 6 ls st h = E_ d mX6_some 8 ls (.ref 29 :: st) h := e_go dX6_some_6 rfl rfl
theorem wX6_some_8 (ht : oT h a = 8) : E_ (d + 1) mX6_some 8 ls [.ref r1, .ref a] h = (C_ d mX6_takes [.ref a, .ref r1] h).bind fun r => E_ (d + 1) mX6_some 11 ls (xpu r.1 []) r.2 := e_vir dX6_some_8 rfl rfl rfl rfl rfl rfl (Nat.le_of_ble_eq_true rfl) (Nat.le_of_ble_eq_true rfl) ht
theorem wX6_some_11 : E_ d mX6_some 11 ls (.int x :: st) h = if x = 0 then E_ d mX6_some 31 ls st h else E_ d mX6_some 14 ls st h := e_zeq dX6_some_11 rfl rfl
theorem wX6_some_14 : E_ d mX6_some 14 ls st h = E_ d mX6_some 17 ls (.ref (oX h) :: st) (pO h 17 3) := e_go dX6_some_14 rfl rfl
theorem wX6_some_17 : E_ d mX6_some 17 ls (.ref a :: st) h = E_ d mX6_some 18 ls (.ref a :: .ref a :: st) h := e_go dX6_some_17 rfl rfl
theorem wX6_some_18 : E_ d mX6_some 18 ls st h = E_ d mX6_some 19 ls (.int (nI 0) :: st) h := e_iconst dX6_some_18 kiconst_0 rfl
theorem wX6_some_19 : E_ d mX6_some 19 [s0, .val (.ref a)] st h = E_ d mX6_some 20 [s0, .val (.ref a)] (.ref a :: st) h := e_go dX6_some_19 rfl rfl
theorem wX6_some_19q : E_ d mX6_some 19 [s0, .val (va_rf q)] st h = E_ d mX6_some 20 [s0, .val (va_rf q)] (va_rf q :: st) h := by cases q <;> exact e_go dX6_some_19 rfl rfl
theorem wX6_some_19n : E_ d mX6_some 19 [s0, .val .null] st h = E_ d mX6_some 20 [s0, .val .null] (.null :: st) h := e_go dX6_some_19 rfl rfl
theorem wX6_some_20 : E_ d mX6_some 20 [.val (.ref a), s1] st h = E_ d mX6_some 21 [.val (.ref a), s1] (.ref a :: st) h := e_go dX6_some_20 rfl rfl
theorem wX6_some_20q : E_ d mX6_some 20 [.val (va_rf q), s1] st h = E_ d mX6_some 21 [.val (va_rf q), s1] (va_rf q :: st) h := by cases q <;> exact e_go dX6_some_20 rfl rfl
theorem wX6_some_20n : E_ d mX6_some 20 [.val .null, s1] st h = E_ d mX6_some 21 [.val .null, s1] (.null :: st) h := e_go dX6_some_20 rfl rfl
theorem wX6_some_21 (ht : oT h a = 8) : E_ (d + 1) mX6_some 21 ls [.ref a, .ref r1, .int x1, .ref r2, .ref r3] h = (C_ d mX6_all [.ref a] h).bind fun r => E_ (d + 1) mX6_some 24 ls (xpu r.1 [.ref r1, .int x1, .ref r2, .ref r3]) r.2 := e_vir dX6_some_21 rfl rfl rfl rfl rfl rfl (Nat.le_of_ble_eq_true rfl) (Nat.le_of_ble_eq_true rfl) ht
theorem wX6_some_24 : E_ (d + 1) mX6_some 24 ls [.ref r2, .ref r1, .int x1, .ref a, .ref r3] h = (C_ d mX17_init [.ref a, .int x1, .ref r1, .ref r2] h).bind fun r => E_ (d + 1) mX6_some 27 ls (xpu r.1 [.ref r3]) r.2 := e_call dX6_some_24 rfl rfl
theorem wX6_some_27 : E_ d mX6_some 27 [s0, s1] (.ref a :: st) h = E_ d mX6_some 28 [xk s0, .val (.ref a)] st h := e_go dX6_some_27 rfl rfl
theorem wX6_some_27n : E_ d mX6_some 27 [s0, s1] (.null :: st) h = E_ d mX6_some 28 [xk s0, .val (.null)] st h := e_go dX6_some_27 rfl rfl
theorem wX6_some_27q : E_ d mX6_some 27 [s0, s1] (va_rf q :: st) h = E_ d mX6_some 28 [xk s0, .val (va_rf q)] st h := by cases q <;> exact e_go dX6_some_27 rfl rfl
theorem wX6_some_28 : E_ d mX6_some 28 ls st h = E_ d mX6_some 5 ls st h := e_gt dX6_some_28 rfl
theorem wX6_some_31 : E_ d mX6_some 31 [s0, .val (.ref a)] st h = E_ d mX6_some 32 [s0, .val (.ref a)] (.ref a :: st) h := e_go dX6_some_31 rfl rfl
theorem wX6_some_31q : E_ d mX6_some 31 [s0, .val (va_rf q)] st h = E_ d mX6_some 32 [s0, .val (va_rf q)] (va_rf q :: st) h := by cases q <;> exact e_go dX6_some_31 rfl rfl
theorem wX6_some_31n : E_ d mX6_some 31 [s0, .val .null] st h = E_ d mX6_some 32 [s0, .val .null] (.null :: st) h := e_go dX6_some_31 rfl rfl
theorem wX6_some_32 : E_ d mX6_some 32 ls [.ref a] h = some (some (.ref a), h) := e_rt dX6_some_32 rfl rfl
theorem wX6_some_32n : E_ d mX6_some 32 ls [.null] h = some (some .null, h) := e_rt dX6_some_32 rfl rfl
theorem wX6_some_32q : E_ d mX6_some 32 ls [va_rf q] h = some (some (va_rf q), h) := by cases q <;> exact e_rt dX6_some_32 rfl rfl
/-! FootOut$Reader.all -/
theorem wX6_all_0 : E_ d mX6_all 0 [.val (.ref a), s1] st h = E_ d mX6_all 1 [.val (.ref a), s1] (.ref a :: st) h := e_go dX6_all_0 rfl rfl
theorem wX6_all_0q : E_ d mX6_all 0 [.val (va_rf q), s1] st h = E_ d mX6_all 1 [.val (va_rf q), s1] (va_rf q :: st) h := by cases q <;> exact e_go dX6_all_0 rfl rfl
theorem wX6_all_0n : E_ d mX6_all 0 [.val .null, s1] st h = E_ d mX6_all 1 [.val .null, s1] (.null :: st) h := e_go dX6_all_0 rfl rfl
theorem wX6_all_1 (ht : oT h a = 8) : E_ (d + 1) mX6_all 1 ls [.ref a] h = (C_ d mX6_fact [.ref a] h).bind fun r => E_ (d + 1) mX6_all 4 ls (xpu r.1 []) r.2 := e_vir dX6_all_1 rfl rfl rfl rfl rfl rfl (Nat.le_of_ble_eq_true rfl) (Nat.le_of_ble_eq_true rfl) ht
theorem wX6_all_4 : E_ d mX6_all 4 [s0, s1] (.ref a :: st) h = E_ d mX6_all 5 [xk s0, .val (.ref a)] st h := e_go dX6_all_4 rfl rfl
theorem wX6_all_4n : E_ d mX6_all 4 [s0, s1] (.null :: st) h = E_ d mX6_all 5 [xk s0, .val (.null)] st h := e_go dX6_all_4 rfl rfl
theorem wX6_all_4q : E_ d mX6_all 4 [s0, s1] (va_rf q :: st) h = E_ d mX6_all 5 [xk s0, .val (va_rf q)] st h := by cases q <;> exact e_go dX6_all_4 rfl rfl
theorem wX6_all_5 : E_ d mX6_all 5 [.val (.ref a), s1] st h = E_ d mX6_all 6 [.val (.ref a), s1] (.ref a :: st) h := e_go dX6_all_5 rfl rfl
theorem wX6_all_5q : E_ d mX6_all 5 [.val (va_rf q), s1] st h = E_ d mX6_all 6 [.val (va_rf q), s1] (va_rf q :: st) h := by cases q <;> exact e_go dX6_all_5 rfl rfl
theorem wX6_all_5n : E_ d mX6_all 5 [.val .null, s1] st h = E_ d mX6_all 6 [.val .null, s1] (.null :: st) h := e_go dX6_all_5 rfl rfl
theorem wX6_all_6 : E_ d mX6_all 6 ls st h = E_ d mX6_all 8 ls (.ref 28 :: st) h := e_go dX6_all_6 rfl rfl
theorem wX6_all_8 (ht : oT h a = 8) : E_ (d + 1) mX6_all 8 ls [.ref r1, .ref a] h = (C_ d mX6_takes [.ref a, .ref r1] h).bind fun r => E_ (d + 1) mX6_all 11 ls (xpu r.1 []) r.2 := e_vir dX6_all_8 rfl rfl rfl rfl rfl rfl (Nat.le_of_ble_eq_true rfl) (Nat.le_of_ble_eq_true rfl) ht
theorem wX6_all_11 : E_ d mX6_all 11 ls (.int x :: st) h = if x = 0 then E_ d mX6_all 31 ls st h else E_ d mX6_all 14 ls st h := e_zeq dX6_all_11 rfl rfl
theorem wX6_all_14 : E_ d mX6_all 14 ls st h = E_ d mX6_all 17 ls (.ref (oX h) :: st) (pO h 17 3) := e_go dX6_all_14 rfl rfl
theorem wX6_all_17 : E_ d mX6_all 17 ls (.ref a :: st) h = E_ d mX6_all 18 ls (.ref a :: .ref a :: st) h := e_go dX6_all_17 rfl rfl
theorem wX6_all_18 : E_ d mX6_all 18 ls st h = E_ d mX6_all 19 ls (.int (nI 1) :: st) h := e_iconst dX6_all_18 kiconst_1 rfl
theorem wX6_all_19 : E_ d mX6_all 19 [s0, .val (.ref a)] st h = E_ d mX6_all 20 [s0, .val (.ref a)] (.ref a :: st) h := e_go dX6_all_19 rfl rfl
theorem wX6_all_19q : E_ d mX6_all 19 [s0, .val (va_rf q)] st h = E_ d mX6_all 20 [s0, .val (va_rf q)] (va_rf q :: st) h := by cases q <;> exact e_go dX6_all_19 rfl rfl
theorem wX6_all_19n : E_ d mX6_all 19 [s0, .val .null] st h = E_ d mX6_all 20 [s0, .val .null] (.null :: st) h := e_go dX6_all_19 rfl rfl
theorem wX6_all_20 : E_ d mX6_all 20 [.val (.ref a), s1] st h = E_ d mX6_all 21 [.val (.ref a), s1] (.ref a :: st) h := e_go dX6_all_20 rfl rfl
theorem wX6_all_20q : E_ d mX6_all 20 [.val (va_rf q), s1] st h = E_ d mX6_all 21 [.val (va_rf q), s1] (va_rf q :: st) h := by cases q <;> exact e_go dX6_all_20 rfl rfl
theorem wX6_all_20n : E_ d mX6_all 20 [.val .null, s1] st h = E_ d mX6_all 21 [.val .null, s1] (.null :: st) h := e_go dX6_all_20 rfl rfl
theorem wX6_all_21 (ht : oT h a = 8) : E_ (d + 1) mX6_all 21 ls [.ref a, .ref r1, .int x1, .ref r2, .ref r3] h = (C_ d mX6_fact [.ref a] h).bind fun r => E_ (d + 1) mX6_all 24 ls (xpu r.1 [.ref r1, .int x1, .ref r2, .ref r3]) r.2 := e_vir dX6_all_21 rfl rfl rfl rfl rfl rfl (Nat.le_of_ble_eq_true rfl) (Nat.le_of_ble_eq_true rfl) ht
theorem wX6_all_24 : E_ (d + 1) mX6_all 24 ls [.ref r2, .ref r1, .int x1, .ref a, .ref r3] h = (C_ d mX17_init [.ref a, .int x1, .ref r1, .ref r2] h).bind fun r => E_ (d + 1) mX6_all 27 ls (xpu r.1 [.ref r3]) r.2 := e_call dX6_all_24 rfl rfl
theorem wX6_all_27 : E_ d mX6_all 27 [s0, s1] (.ref a :: st) h = E_ d mX6_all 28 [xk s0, .val (.ref a)] st h := e_go dX6_all_27 rfl rfl
theorem wX6_all_27n : E_ d mX6_all 27 [s0, s1] (.null :: st) h = E_ d mX6_all 28 [xk s0, .val (.null)] st h := e_go dX6_all_27 rfl rfl
theorem wX6_all_27q : E_ d mX6_all 27 [s0, s1] (va_rf q :: st) h = E_ d mX6_all 28 [xk s0, .val (va_rf q)] st h := by cases q <;> exact e_go dX6_all_27 rfl rfl
theorem wX6_all_28 : E_ d mX6_all 28 ls st h = E_ d mX6_all 5 ls st h := e_gt dX6_all_28 rfl
theorem wX6_all_31 : E_ d mX6_all 31 [s0, .val (.ref a)] st h = E_ d mX6_all 32 [s0, .val (.ref a)] (.ref a :: st) h := e_go dX6_all_31 rfl rfl
theorem wX6_all_31q : E_ d mX6_all 31 [s0, .val (va_rf q)] st h = E_ d mX6_all 32 [s0, .val (va_rf q)] (va_rf q :: st) h := by cases q <;> exact e_go dX6_all_31 rfl rfl
theorem wX6_all_31n : E_ d mX6_all 31 [s0, .val .null] st h = E_ d mX6_all 32 [s0, .val .null] (.null :: st) h := e_go dX6_all_31 rfl rfl
theorem wX6_all_32 : E_ d mX6_all 32 ls [.ref a] h = some (some (.ref a), h) := e_rt dX6_all_32 rfl rfl
theorem wX6_all_32n : E_ d mX6_all 32 ls [.null] h = some (some .null, h) := e_rt dX6_all_32 rfl rfl
theorem wX6_all_32q : E_ d mX6_all 32 ls [va_rf q] h = some (some (va_rf q), h) := by cases q <;> exact e_rt dX6_all_32 rfl rfl
/-! FootOut$Reader.fact -/
theorem wX6_fact_0 : E_ d mX6_fact 0 [.val (.ref a), s1] st h = E_ d mX6_fact 1 [.val (.ref a), s1] (.ref a :: st) h := e_go dX6_fact_0 rfl rfl
theorem wX6_fact_0q : E_ d mX6_fact 0 [.val (va_rf q), s1] st h = E_ d mX6_fact 1 [.val (va_rf q), s1] (va_rf q :: st) h := by cases q <;> exact e_go dX6_fact_0 rfl rfl
theorem wX6_fact_0n : E_ d mX6_fact 0 [.val .null, s1] st h = E_ d mX6_fact 1 [.val .null, s1] (.null :: st) h := e_go dX6_fact_0 rfl rfl
theorem wX6_fact_1 : E_ d mX6_fact 1 ls st h = E_ d mX6_fact 3 ls (.ref 20 :: st) h := e_go dX6_fact_1 rfl rfl
theorem wX6_fact_3 (ht : oT h a = 8) : E_ (d + 1) mX6_fact 3 ls [.ref r1, .ref a] h = (C_ d mX6_is [.ref a, .ref r1] h).bind fun r => E_ (d + 1) mX6_fact 6 ls (xpu r.1 []) r.2 := e_vir dX6_fact_3 rfl rfl rfl rfl rfl rfl (Nat.le_of_ble_eq_true rfl) (Nat.le_of_ble_eq_true rfl) ht
theorem wX6_fact_6 : E_ d mX6_fact 6 ls (.int x :: st) h = if x = 0 then E_ d mX6_fact 48 ls st h else E_ d mX6_fact 9 ls st h := e_zeq dX6_fact_6 rfl rfl
theorem wX6_fact_9 : E_ d mX6_fact 9 [.val (.ref a), s1] st h = E_ d mX6_fact 10 [.val (.ref a), s1] (.ref a :: st) h := e_go dX6_fact_9 rfl rfl
theorem wX6_fact_9q : E_ d mX6_fact 9 [.val (va_rf q), s1] st h = E_ d mX6_fact 10 [.val (va_rf q), s1] (va_rf q :: st) h := by cases q <;> exact e_go dX6_fact_9 rfl rfl
theorem wX6_fact_9n : E_ d mX6_fact 9 [.val .null, s1] st h = E_ d mX6_fact 10 [.val .null, s1] (.null :: st) h := e_go dX6_fact_9 rfl rfl
theorem wX6_fact_10 (ht : oT h a = 8) : E_ (d + 1) mX6_fact 10 ls [.ref a] h = (C_ d mX6_opens [.ref a] h).bind fun r => E_ (d + 1) mX6_fact 13 ls (xpu r.1 []) r.2 := e_vir dX6_fact_10 rfl rfl rfl rfl rfl rfl (Nat.le_of_ble_eq_true rfl) (Nat.le_of_ble_eq_true rfl) ht
theorem wX6_fact_13 : E_ d mX6_fact 13 [.val (.ref a), s1] st h = E_ d mX6_fact 14 [.val (.ref a), s1] (.ref a :: st) h := e_go dX6_fact_13 rfl rfl
theorem wX6_fact_13q : E_ d mX6_fact 13 [.val (va_rf q), s1] st h = E_ d mX6_fact 14 [.val (va_rf q), s1] (va_rf q :: st) h := by cases q <;> exact e_go dX6_fact_13 rfl rfl
theorem wX6_fact_13n : E_ d mX6_fact 13 [.val .null, s1] st h = E_ d mX6_fact 14 [.val .null, s1] (.null :: st) h := e_go dX6_fact_13 rfl rfl
theorem wX6_fact_14 (ht : oT h a = 8) : E_ d mX6_fact 14 ls (.ref a :: st) h = E_ d mX6_fact 17 ls (.int (oI h a 8) :: st) h := e_getI dX6_fact_14 rfl rfl ht
theorem wX6_fact_17 : E_ d mX6_fact 17 ls (.int x :: st) h = if x = 0 then E_ d mX6_fact 20 ls st h else E_ d mX6_fact 34 ls st h := e_zne dX6_fact_17 rfl rfl
theorem wX6_fact_20 : E_ d mX6_fact 20 ls st h = E_ d mX6_fact 23 ls (.ref (oX h) :: st) (pO h 10 1) := e_go dX6_fact_20 rfl rfl
theorem wX6_fact_23 : E_ d mX6_fact 23 ls (.ref a :: st) h = E_ d mX6_fact 24 ls (.ref a :: .ref a :: st) h := e_go dX6_fact_23 rfl rfl
theorem wX6_fact_24 : E_ d mX6_fact 24 [.val (.ref a), s1] st h = E_ d mX6_fact 25 [.val (.ref a), s1] (.ref a :: st) h := e_go dX6_fact_24 rfl rfl
theorem wX6_fact_24q : E_ d mX6_fact 24 [.val (va_rf q), s1] st h = E_ d mX6_fact 25 [.val (va_rf q), s1] (va_rf q :: st) h := by cases q <;> exact e_go dX6_fact_24 rfl rfl
theorem wX6_fact_24n : E_ d mX6_fact 24 [.val .null, s1] st h = E_ d mX6_fact 25 [.val .null, s1] (.null :: st) h := e_go dX6_fact_24 rfl rfl
theorem wX6_fact_25 (ht : oT h a = 8) : E_ (d + 1) mX6_fact 25 ls [.ref a, .ref r1, .ref r2] h = (C_ d mX6_fact [.ref a] h).bind fun r => E_ (d + 1) mX6_fact 28 ls (xpu r.1 [.ref r1, .ref r2]) r.2 := e_vir dX6_fact_25 rfl rfl rfl rfl rfl rfl (Nat.le_of_ble_eq_true rfl) (Nat.le_of_ble_eq_true rfl) ht
theorem wX6_fact_28 : E_ (d + 1) mX6_fact 28 ls [.ref r1, .ref a, .ref r2] h = (C_ d mX9_init [.ref a, .ref r1] h).bind fun r => E_ (d + 1) mX6_fact 31 ls (xpu r.1 [.ref r2]) r.2 := e_call dX6_fact_28 rfl rfl
theorem wX6_fact_31 : E_ d mX6_fact 31 ls st h = E_ d mX6_fact 35 ls st h := e_gt dX6_fact_31 rfl
theorem wX6_fact_34 : E_ d mX6_fact 34 ls st h = E_ d mX6_fact 35 ls (.null :: st) h := e_go dX6_fact_34 rfl rfl
theorem wX6_fact_35 : E_ d mX6_fact 35 [s0, s1] (.ref a :: st) h = E_ d mX6_fact 36 [xk s0, .val (.ref a)] st h := e_go dX6_fact_35 rfl rfl
theorem wX6_fact_35n : E_ d mX6_fact 35 [s0, s1] (.null :: st) h = E_ d mX6_fact 36 [xk s0, .val (.null)] st h := e_go dX6_fact_35 rfl rfl
theorem wX6_fact_35q : E_ d mX6_fact 35 [s0, s1] (va_rf q :: st) h = E_ d mX6_fact 36 [xk s0, .val (va_rf q)] st h := by cases q <;> exact e_go dX6_fact_35 rfl rfl
theorem wX6_fact_36 : E_ d mX6_fact 36 [.val (.ref a), s1] st h = E_ d mX6_fact 37 [.val (.ref a), s1] (.ref a :: st) h := e_go dX6_fact_36 rfl rfl
theorem wX6_fact_36q : E_ d mX6_fact 36 [.val (va_rf q), s1] st h = E_ d mX6_fact 37 [.val (va_rf q), s1] (va_rf q :: st) h := by cases q <;> exact e_go dX6_fact_36 rfl rfl
theorem wX6_fact_36n : E_ d mX6_fact 36 [.val .null, s1] st h = E_ d mX6_fact 37 [.val .null, s1] (.null :: st) h := e_go dX6_fact_36 rfl rfl
theorem wX6_fact_37 : E_ d mX6_fact 37 ls (.ref a :: st) h = E_ d mX6_fact 38 ls (.ref a :: .ref a :: st) h := e_go dX6_fact_37 rfl rfl
theorem wX6_fact_38 (ht : oT h a = 8) : E_ d mX6_fact 38 ls (.ref a :: st) h = E_ d mX6_fact 41 ls (.int (oI h a 7) :: st) h := e_getI dX6_fact_38 rfl rfl ht
theorem wX6_fact_41 : E_ d mX6_fact 41 ls st h = E_ d mX6_fact 42 ls (.int (nI 1) :: st) h := e_iconst dX6_fact_41 kiconst_1 rfl
theorem wX6_fact_42 : E_ d mX6_fact 42 ls (.int y :: .int x :: st) h = E_ d mX6_fact 43 ls (.int (x - y) :: st) h := e_go dX6_fact_42 rfl rfl
theorem wX6_fact_43 (ht : oT h a = 8) : E_ d mX6_fact 43 ls (.int x :: .ref a :: st) h = E_ d mX6_fact 46 ls st (pI h a (va_up (oI h a) 7 x)) := e_putI dX6_fact_43 rfl rfl ht
theorem wX6_fact_46 : E_ d mX6_fact 46 [s0, .val (.ref a)] st h = E_ d mX6_fact 47 [s0, .val (.ref a)] (.ref a :: st) h := e_go dX6_fact_46 rfl rfl
theorem wX6_fact_46q : E_ d mX6_fact 46 [s0, .val (va_rf q)] st h = E_ d mX6_fact 47 [s0, .val (va_rf q)] (va_rf q :: st) h := by cases q <;> exact e_go dX6_fact_46 rfl rfl
theorem wX6_fact_46n : E_ d mX6_fact 46 [s0, .val .null] st h = E_ d mX6_fact 47 [s0, .val .null] (.null :: st) h := e_go dX6_fact_46 rfl rfl
theorem wX6_fact_47 : E_ d mX6_fact 47 ls [.ref a] h = some (some (.ref a), h) := e_rt dX6_fact_47 rfl rfl
theorem wX6_fact_47n : E_ d mX6_fact 47 ls [.null] h = some (some .null, h) := e_rt dX6_fact_47 rfl rfl
theorem wX6_fact_47q : E_ d mX6_fact 47 ls [va_rf q] h = some (some (va_rf q), h) := by cases q <;> exact e_rt dX6_fact_47 rfl rfl
theorem wX6_fact_48 : E_ d mX6_fact 48 [.val (.ref a), s1] st h = E_ d mX6_fact 49 [.val (.ref a), s1] (.ref a :: st) h := e_go dX6_fact_48 rfl rfl
theorem wX6_fact_48q : E_ d mX6_fact 48 [.val (va_rf q), s1] st h = E_ d mX6_fact 49 [.val (va_rf q), s1] (va_rf q :: st) h := by cases q <;> exact e_go dX6_fact_48 rfl rfl
theorem wX6_fact_48n : E_ d mX6_fact 48 [.val .null, s1] st h = E_ d mX6_fact 49 [.val .null, s1] (.null :: st) h := e_go dX6_fact_48 rfl rfl
theorem wX6_fact_49 (ht : oT h a = 8) : E_ d mX6_fact 49 ls (.ref a :: st) h = E_ d mX6_fact 52 ls (.int (oI h a 8) :: st) h := e_getI dX6_fact_49 rfl rfl ht
theorem wX6_fact_52 : E_ d mX6_fact 52 ls (.int x :: st) h = if x = 0 then E_ d mX6_fact 55 ls st h else E_ d mX6_fact 128 ls st h := e_zne dX6_fact_52 rfl rfl
theorem wX6_fact_55 : E_ d mX6_fact 55 [.val (.ref a), s1] st h = E_ d mX6_fact 56 [.val (.ref a), s1] (.ref a :: st) h := e_go dX6_fact_55 rfl rfl
theorem wX6_fact_55q : E_ d mX6_fact 55 [.val (va_rf q), s1] st h = E_ d mX6_fact 56 [.val (va_rf q), s1] (va_rf q :: st) h := by cases q <;> exact e_go dX6_fact_55 rfl rfl
theorem wX6_fact_55n : E_ d mX6_fact 55 [.val .null, s1] st h = E_ d mX6_fact 56 [.val .null, s1] (.null :: st) h := e_go dX6_fact_55 rfl rfl
theorem wX6_fact_56 (ht : oT h a = 8) : E_ d mX6_fact 56 ls (.ref a :: st) h = E_ d mX6_fact 59 ls (.int (oI h a 5) :: st) h := e_getI dX6_fact_56 rfl rfl ht
theorem wX6_fact_59 : E_ d mX6_fact 59 ls st h = E_ d mX6_fact 61 ls (.int (nI 40) :: st) h := e_bipush dX6_fact_59 kbipush_40 rfl
theorem wX6_fact_61 : E_ d mX6_fact 61 ls (.int y :: .int x :: st) h = if x = y then E_ d mX6_fact 64 ls st h else E_ d mX6_fact 128 ls st h := e_ine dX6_fact_61 rfl rfl
theorem wX6_fact_64 : E_ d mX6_fact 64 [.val (.ref a), s1] st h = E_ d mX6_fact 65 [.val (.ref a), s1] (.ref a :: st) h := e_go dX6_fact_64 rfl rfl
theorem wX6_fact_64q : E_ d mX6_fact 64 [.val (va_rf q), s1] st h = E_ d mX6_fact 65 [.val (va_rf q), s1] (va_rf q :: st) h := by cases q <;> exact e_go dX6_fact_64 rfl rfl
theorem wX6_fact_64n : E_ d mX6_fact 64 [.val .null, s1] st h = E_ d mX6_fact 65 [.val .null, s1] (.null :: st) h := e_go dX6_fact_64 rfl rfl
theorem wX6_fact_65 (ht : oT h a = 8) : E_ (d + 1) mX6_fact 65 ls [.ref a] h = (C_ d mX6_opens [.ref a] h).bind fun r => E_ (d + 1) mX6_fact 68 ls (xpu r.1 []) r.2 := e_vir dX6_fact_65 rfl rfl rfl rfl rfl rfl (Nat.le_of_ble_eq_true rfl) (Nat.le_of_ble_eq_true rfl) ht
theorem wX6_fact_68 : E_ d mX6_fact 68 [.val (.ref a), s1] st h = E_ d mX6_fact 69 [.val (.ref a), s1] (.ref a :: st) h := e_go dX6_fact_68 rfl rfl
theorem wX6_fact_68q : E_ d mX6_fact 68 [.val (va_rf q), s1] st h = E_ d mX6_fact 69 [.val (va_rf q), s1] (va_rf q :: st) h := by cases q <;> exact e_go dX6_fact_68 rfl rfl
theorem wX6_fact_68n : E_ d mX6_fact 68 [.val .null, s1] st h = E_ d mX6_fact 69 [.val .null, s1] (.null :: st) h := e_go dX6_fact_68 rfl rfl
theorem wX6_fact_69 (ht : oT h a = 8) : E_ d mX6_fact 69 ls (.ref a :: st) h = E_ d mX6_fact 72 ls (.int (oI h a 8) :: st) h := e_getI dX6_fact_69 rfl rfl ht
theorem wX6_fact_72 : E_ d mX6_fact 72 ls (.int x :: st) h = if x = 0 then E_ d mX6_fact 75 ls st h else E_ d mX6_fact 82 ls st h := e_zne dX6_fact_72 rfl rfl
theorem wX6_fact_75 : E_ d mX6_fact 75 [.val (.ref a), s1] st h = E_ d mX6_fact 76 [.val (.ref a), s1] (.ref a :: st) h := e_go dX6_fact_75 rfl rfl
theorem wX6_fact_75q : E_ d mX6_fact 75 [.val (va_rf q), s1] st h = E_ d mX6_fact 76 [.val (va_rf q), s1] (va_rf q :: st) h := by cases q <;> exact e_go dX6_fact_75 rfl rfl
theorem wX6_fact_75n : E_ d mX6_fact 75 [.val .null, s1] st h = E_ d mX6_fact 76 [.val .null, s1] (.null :: st) h := e_go dX6_fact_75 rfl rfl
theorem wX6_fact_76 (ht : oT h a = 8) : E_ (d + 1) mX6_fact 76 ls [.ref a] h = (C_ d mX6_some [.ref a] h).bind fun r => E_ (d + 1) mX6_fact 79 ls (xpu r.1 []) r.2 := e_vir dX6_fact_76 rfl rfl rfl rfl rfl rfl (Nat.le_of_ble_eq_true rfl) (Nat.le_of_ble_eq_true rfl) ht
theorem wX6_fact_79 : E_ d mX6_fact 79 ls st h = E_ d mX6_fact 83 ls st h := e_gt dX6_fact_79 rfl
theorem wX6_fact_82 : E_ d mX6_fact 82 ls st h = E_ d mX6_fact 83 ls (.null :: st) h := e_go dX6_fact_82 rfl rfl
theorem wX6_fact_83 : E_ d mX6_fact 83 [s0, s1] (.ref a :: st) h = E_ d mX6_fact 84 [xk s0, .val (.ref a)] st h := e_go dX6_fact_83 rfl rfl
theorem wX6_fact_83n : E_ d mX6_fact 83 [s0, s1] (.null :: st) h = E_ d mX6_fact 84 [xk s0, .val (.null)] st h := e_go dX6_fact_83 rfl rfl
theorem wX6_fact_83q : E_ d mX6_fact 83 [s0, s1] (va_rf q :: st) h = E_ d mX6_fact 84 [xk s0, .val (va_rf q)] st h := by cases q <;> exact e_go dX6_fact_83 rfl rfl
theorem wX6_fact_84 : E_ d mX6_fact 84 [.val (.ref a), s1] st h = E_ d mX6_fact 85 [.val (.ref a), s1] (.ref a :: st) h := e_go dX6_fact_84 rfl rfl
theorem wX6_fact_84q : E_ d mX6_fact 84 [.val (va_rf q), s1] st h = E_ d mX6_fact 85 [.val (va_rf q), s1] (va_rf q :: st) h := by cases q <;> exact e_go dX6_fact_84 rfl rfl
theorem wX6_fact_84n : E_ d mX6_fact 84 [.val .null, s1] st h = E_ d mX6_fact 85 [.val .null, s1] (.null :: st) h := e_go dX6_fact_84 rfl rfl
theorem wX6_fact_85 (ht : oT h a = 8) : E_ d mX6_fact 85 ls (.ref a :: st) h = E_ d mX6_fact 88 ls (.int (oI h a 8) :: st) h := e_getI dX6_fact_85 rfl rfl ht
theorem wX6_fact_88 : E_ d mX6_fact 88 ls (.int x :: st) h = if x = 0 then E_ d mX6_fact 91 ls st h else E_ d mX6_fact 105 ls st h := e_zne dX6_fact_88 rfl rfl
theorem wX6_fact_91 : E_ d mX6_fact 91 [.val (.ref a), s1] st h = E_ d mX6_fact 92 [.val (.ref a), s1] (.ref a :: st) h := e_go dX6_fact_91 rfl rfl
theorem wX6_fact_91q : E_ d mX6_fact 91 [.val (va_rf q), s1] st h = E_ d mX6_fact 92 [.val (va_rf q), s1] (va_rf q :: st) h := by cases q <;> exact e_go dX6_fact_91 rfl rfl
theorem wX6_fact_91n : E_ d mX6_fact 91 [.val .null, s1] st h = E_ d mX6_fact 92 [.val .null, s1] (.null :: st) h := e_go dX6_fact_91 rfl rfl
theorem wX6_fact_92 (ht : oT h a = 8) : E_ d mX6_fact 92 ls (.ref a :: st) h = E_ d mX6_fact 95 ls (.int (oI h a 5) :: st) h := e_getI dX6_fact_92 rfl rfl ht
theorem wX6_fact_95 : E_ d mX6_fact 95 ls st h = E_ d mX6_fact 97 ls (.int (nI 41) :: st) h := e_bipush dX6_fact_95 kbipush_41 rfl
theorem wX6_fact_97 : E_ d mX6_fact 97 ls (.int y :: .int x :: st) h = if x = y then E_ d mX6_fact 105 ls st h else E_ d mX6_fact 100 ls st h := e_ieq dX6_fact_97 rfl rfl
theorem wX6_fact_100 : E_ d mX6_fact 100 [.val (.ref a), s1] st h = E_ d mX6_fact 101 [.val (.ref a), s1] (.ref a :: st) h := e_go dX6_fact_100 rfl rfl
theorem wX6_fact_100q : E_ d mX6_fact 100 [.val (va_rf q), s1] st h = E_ d mX6_fact 101 [.val (va_rf q), s1] (va_rf q :: st) h := by cases q <;> exact e_go dX6_fact_100 rfl rfl
theorem wX6_fact_100n : E_ d mX6_fact 100 [.val .null, s1] st h = E_ d mX6_fact 101 [.val .null, s1] (.null :: st) h := e_go dX6_fact_100 rfl rfl
theorem wX6_fact_101 : E_ d mX6_fact 101 ls st h = E_ d mX6_fact 102 ls (.int (nI 2) :: st) h := e_iconst dX6_fact_101 kiconst_2 rfl
theorem wX6_fact_102 (ht : oT h a = 8) : E_ (d + 1) mX6_fact 102 ls [.int x1, .ref a] h = (C_ d mX6_wrong [.ref a, .int x1] h).bind fun r => E_ (d + 1) mX6_fact 105 ls (xpu r.1 []) r.2 := e_vir dX6_fact_102 rfl rfl rfl rfl rfl rfl (Nat.le_of_ble_eq_true rfl) (Nat.le_of_ble_eq_true rfl) ht
theorem wX6_fact_105 : E_ d mX6_fact 105 [.val (.ref a), s1] st h = E_ d mX6_fact 106 [.val (.ref a), s1] (.ref a :: st) h := e_go dX6_fact_105 rfl rfl
theorem wX6_fact_105q : E_ d mX6_fact 105 [.val (va_rf q), s1] st h = E_ d mX6_fact 106 [.val (va_rf q), s1] (va_rf q :: st) h := by cases q <;> exact e_go dX6_fact_105 rfl rfl
theorem wX6_fact_105n : E_ d mX6_fact 105 [.val .null, s1] st h = E_ d mX6_fact 106 [.val .null, s1] (.null :: st) h := e_go dX6_fact_105 rfl rfl
theorem wX6_fact_106 (ht : oT h a = 8) : E_ d mX6_fact 106 ls (.ref a :: st) h = E_ d mX6_fact 109 ls (.int (oI h a 8) :: st) h := e_getI dX6_fact_106 rfl rfl ht
theorem wX6_fact_109 : E_ d mX6_fact 109 ls (.int x :: st) h = if x = 0 then E_ d mX6_fact 112 ls st h else E_ d mX6_fact 116 ls st h := e_zne dX6_fact_109 rfl rfl
theorem wX6_fact_112 : E_ d mX6_fact 112 [.val (.ref a), s1] st h = E_ d mX6_fact 113 [.val (.ref a), s1] (.ref a :: st) h := e_go dX6_fact_112 rfl rfl
theorem wX6_fact_112q : E_ d mX6_fact 112 [.val (va_rf q), s1] st h = E_ d mX6_fact 113 [.val (va_rf q), s1] (va_rf q :: st) h := by cases q <;> exact e_go dX6_fact_112 rfl rfl
theorem wX6_fact_112n : E_ d mX6_fact 112 [.val .null, s1] st h = E_ d mX6_fact 113 [.val .null, s1] (.null :: st) h := e_go dX6_fact_112 rfl rfl
theorem wX6_fact_113 (ht : oT h a = 8) : E_ (d + 1) mX6_fact 113 ls [.ref a] h = (C_ d mX6_next [.ref a] h).bind fun r => E_ (d + 1) mX6_fact 116 ls (xpu r.1 []) r.2 := e_vir dX6_fact_113 rfl rfl rfl rfl rfl rfl (Nat.le_of_ble_eq_true rfl) (Nat.le_of_ble_eq_true rfl) ht
theorem wX6_fact_116 : E_ d mX6_fact 116 [.val (.ref a), s1] st h = E_ d mX6_fact 117 [.val (.ref a), s1] (.ref a :: st) h := e_go dX6_fact_116 rfl rfl
theorem wX6_fact_116q : E_ d mX6_fact 116 [.val (va_rf q), s1] st h = E_ d mX6_fact 117 [.val (va_rf q), s1] (va_rf q :: st) h := by cases q <;> exact e_go dX6_fact_116 rfl rfl
theorem wX6_fact_116n : E_ d mX6_fact 116 [.val .null, s1] st h = E_ d mX6_fact 117 [.val .null, s1] (.null :: st) h := e_go dX6_fact_116 rfl rfl
theorem wX6_fact_117 : E_ d mX6_fact 117 ls (.ref a :: st) h = E_ d mX6_fact 118 ls (.ref a :: .ref a :: st) h := e_go dX6_fact_117 rfl rfl
theorem wX6_fact_118 (ht : oT h a = 8) : E_ d mX6_fact 118 ls (.ref a :: st) h = E_ d mX6_fact 121 ls (.int (oI h a 7) :: st) h := e_getI dX6_fact_118 rfl rfl ht
theorem wX6_fact_121 : E_ d mX6_fact 121 ls st h = E_ d mX6_fact 122 ls (.int (nI 1) :: st) h := e_iconst dX6_fact_121 kiconst_1 rfl
theorem wX6_fact_122 : E_ d mX6_fact 122 ls (.int y :: .int x :: st) h = E_ d mX6_fact 123 ls (.int (x - y) :: st) h := e_go dX6_fact_122 rfl rfl
theorem wX6_fact_123 (ht : oT h a = 8) : E_ d mX6_fact 123 ls (.int x :: .ref a :: st) h = E_ d mX6_fact 126 ls st (pI h a (va_up (oI h a) 7 x)) := e_putI dX6_fact_123 rfl rfl ht
theorem wX6_fact_126 : E_ d mX6_fact 126 [s0, .val (.ref a)] st h = E_ d mX6_fact 127 [s0, .val (.ref a)] (.ref a :: st) h := e_go dX6_fact_126 rfl rfl
theorem wX6_fact_126q : E_ d mX6_fact 126 [s0, .val (va_rf q)] st h = E_ d mX6_fact 127 [s0, .val (va_rf q)] (va_rf q :: st) h := by cases q <;> exact e_go dX6_fact_126 rfl rfl
theorem wX6_fact_126n : E_ d mX6_fact 126 [s0, .val .null] st h = E_ d mX6_fact 127 [s0, .val .null] (.null :: st) h := e_go dX6_fact_126 rfl rfl
theorem wX6_fact_127 : E_ d mX6_fact 127 ls [.ref a] h = some (some (.ref a), h) := e_rt dX6_fact_127 rfl rfl
theorem wX6_fact_127n : E_ d mX6_fact 127 ls [.null] h = some (some .null, h) := e_rt dX6_fact_127 rfl rfl
theorem wX6_fact_127q : E_ d mX6_fact 127 ls [va_rf q] h = some (some (va_rf q), h) := by cases q <;> exact e_rt dX6_fact_127 rfl rfl
theorem wX6_fact_128 : E_ d mX6_fact 128 [.val (.ref a), s1] st h = E_ d mX6_fact 129 [.val (.ref a), s1] (.ref a :: st) h := e_go dX6_fact_128 rfl rfl
theorem wX6_fact_128q : E_ d mX6_fact 128 [.val (va_rf q), s1] st h = E_ d mX6_fact 129 [.val (va_rf q), s1] (va_rf q :: st) h := by cases q <;> exact e_go dX6_fact_128 rfl rfl
theorem wX6_fact_128n : E_ d mX6_fact 128 [.val .null, s1] st h = E_ d mX6_fact 129 [.val .null, s1] (.null :: st) h := e_go dX6_fact_128 rfl rfl
theorem wX6_fact_129 (ht : oT h a = 8) : E_ (d + 1) mX6_fact 129 ls [.ref a] h = (C_ d mX6_trait [.ref a] h).bind fun r => E_ (d + 1) mX6_fact 132 ls (xpu r.1 []) r.2 := e_vir dX6_fact_129 rfl rfl rfl rfl rfl rfl (Nat.le_of_ble_eq_true rfl) (Nat.le_of_ble_eq_true rfl) ht
theorem wX6_fact_132 : E_ d mX6_fact 132 [s0, s1] (.int x :: st) h = E_ d mX6_fact 133 [xk s0, .val (.int x)] st h := e_go dX6_fact_132 rfl rfl
theorem wX6_fact_133 : E_ d mX6_fact 133 [s0, .val (.int x)] st h = E_ d mX6_fact 134 [s0, .val (.int x)] (.int x :: st) h := e_go dX6_fact_133 rfl rfl
theorem wX6_fact_134 : E_ d mX6_fact 134 ls st h = E_ d mX6_fact 135 ls (.int ((-1)) :: st) h := e_iconst dX6_fact_134 kiconst_m1 rfl
theorem wX6_fact_135 : E_ d mX6_fact 135 ls (.int y :: .int x :: st) h = if x = y then E_ d mX6_fact 147 ls st h else E_ d mX6_fact 138 ls st h := e_ieq dX6_fact_135 rfl rfl
theorem wX6_fact_138 : E_ d mX6_fact 138 ls st h = E_ d mX6_fact 141 ls (.ref (oX h) :: st) (pO h 11 1) := e_go dX6_fact_138 rfl rfl
theorem wX6_fact_141 : E_ d mX6_fact 141 ls (.ref a :: st) h = E_ d mX6_fact 142 ls (.ref a :: .ref a :: st) h := e_go dX6_fact_141 rfl rfl
theorem wX6_fact_142 : E_ d mX6_fact 142 [s0, .val (.int x)] st h = E_ d mX6_fact 143 [s0, .val (.int x)] (.int x :: st) h := e_go dX6_fact_142 rfl rfl
theorem wX6_fact_143 : E_ (d + 1) mX6_fact 143 ls [.int x1, .ref a, .ref r1] h = (C_ d mX10_init [.ref a, .int x1] h).bind fun r => E_ (d + 1) mX6_fact 146 ls (xpu r.1 [.ref r1]) r.2 := e_call dX6_fact_143 rfl rfl
theorem wX6_fact_146 : E_ d mX6_fact 146 ls [.ref a] h = some (some (.ref a), h) := e_rt dX6_fact_146 rfl rfl
theorem wX6_fact_146n : E_ d mX6_fact 146 ls [.null] h = some (some .null, h) := e_rt dX6_fact_146 rfl rfl
theorem wX6_fact_146q : E_ d mX6_fact 146 ls [va_rf q] h = some (some (va_rf q), h) := by cases q <;> exact e_rt dX6_fact_146 rfl rfl
theorem wX6_fact_147 : E_ d mX6_fact 147 [.val (.ref a), s1] st h = E_ d mX6_fact 148 [.val (.ref a), s1] (.ref a :: st) h := e_go dX6_fact_147 rfl rfl
theorem wX6_fact_147q : E_ d mX6_fact 147 [.val (va_rf q), s1] st h = E_ d mX6_fact 148 [.val (va_rf q), s1] (va_rf q :: st) h := by cases q <;> exact e_go dX6_fact_147 rfl rfl
theorem wX6_fact_147n : E_ d mX6_fact 147 [.val .null, s1] st h = E_ d mX6_fact 148 [.val .null, s1] (.null :: st) h := e_go dX6_fact_147 rfl rfl
theorem wX6_fact_148 : E_ d mX6_fact 148 ls st h = E_ d mX6_fact 150 ls (.ref 21 :: st) h := e_go dX6_fact_148 rfl rfl
theorem wX6_fact_150 (ht : oT h a = 8) : E_ (d + 1) mX6_fact 150 ls [.ref r1, .ref a] h = (C_ d mX6_takes [.ref a, .ref r1] h).bind fun r => E_ (d + 1) mX6_fact 153 ls (xpu r.1 []) r.2 := e_vir dX6_fact_150 rfl rfl rfl rfl rfl rfl (Nat.le_of_ble_eq_true rfl) (Nat.le_of_ble_eq_true rfl) ht
theorem wX6_fact_153 : E_ d mX6_fact 153 ls (.int x :: st) h = if x = 0 then E_ d mX6_fact 164 ls st h else E_ d mX6_fact 156 ls st h := e_zeq dX6_fact_153 rfl rfl
theorem wX6_fact_156 : E_ d mX6_fact 156 ls st h = E_ d mX6_fact 159 ls (.ref (oX h) :: st) (pO h 12 0) := e_go dX6_fact_156 rfl rfl
theorem wX6_fact_159 : E_ d mX6_fact 159 ls (.ref a :: st) h = E_ d mX6_fact 160 ls (.ref a :: .ref a :: st) h := e_go dX6_fact_159 rfl rfl
theorem wX6_fact_160 : E_ (d + 1) mX6_fact 160 ls [.ref a, .ref r1] h = (C_ d mX12_init [.ref a] h).bind fun r => E_ (d + 1) mX6_fact 163 ls (xpu r.1 [.ref r1]) r.2 := e_call dX6_fact_160 rfl rfl
theorem wX6_fact_163 : E_ d mX6_fact 163 ls [.ref a] h = some (some (.ref a), h) := e_rt dX6_fact_163 rfl rfl
theorem wX6_fact_163n : E_ d mX6_fact 163 ls [.null] h = some (some .null, h) := e_rt dX6_fact_163 rfl rfl
theorem wX6_fact_163q : E_ d mX6_fact 163 ls [va_rf q] h = some (some (va_rf q), h) := by cases q <;> exact e_rt dX6_fact_163 rfl rfl
theorem wX6_fact_164 : E_ d mX6_fact 164 [.val (.ref a), s1] st h = E_ d mX6_fact 165 [.val (.ref a), s1] (.ref a :: st) h := e_go dX6_fact_164 rfl rfl
theorem wX6_fact_164q : E_ d mX6_fact 164 [.val (va_rf q), s1] st h = E_ d mX6_fact 165 [.val (va_rf q), s1] (va_rf q :: st) h := by cases q <;> exact e_go dX6_fact_164 rfl rfl
theorem wX6_fact_164n : E_ d mX6_fact 164 [.val .null, s1] st h = E_ d mX6_fact 165 [.val .null, s1] (.null :: st) h := e_go dX6_fact_164 rfl rfl
theorem wX6_fact_165 : E_ d mX6_fact 165 ls st h = E_ d mX6_fact 167 ls (.ref 22 :: st) h := e_go dX6_fact_165 rfl rfl
theorem wX6_fact_167 (ht : oT h a = 8) : E_ (d + 1) mX6_fact 167 ls [.ref r1, .ref a] h = (C_ d mX6_takes [.ref a, .ref r1] h).bind fun r => E_ (d + 1) mX6_fact 170 ls (xpu r.1 []) r.2 := e_vir dX6_fact_167 rfl rfl rfl rfl rfl rfl (Nat.le_of_ble_eq_true rfl) (Nat.le_of_ble_eq_true rfl) ht
theorem wX6_fact_170 : E_ d mX6_fact 170 ls (.int x :: st) h = if x = 0 then E_ d mX6_fact 181 ls st h else E_ d mX6_fact 173 ls st h := e_zeq dX6_fact_170 rfl rfl
theorem wX6_fact_173 : E_ d mX6_fact 173 ls st h = E_ d mX6_fact 176 ls (.ref (oX h) :: st) (pO h 13 0) := e_go dX6_fact_173 rfl rfl
theorem wX6_fact_176 : E_ d mX6_fact 176 ls (.ref a :: st) h = E_ d mX6_fact 177 ls (.ref a :: .ref a :: st) h := e_go dX6_fact_176 rfl rfl
theorem wX6_fact_177 : E_ (d + 1) mX6_fact 177 ls [.ref a, .ref r1] h = (C_ d mX13_init [.ref a] h).bind fun r => E_ (d + 1) mX6_fact 180 ls (xpu r.1 [.ref r1]) r.2 := e_call dX6_fact_177 rfl rfl
theorem wX6_fact_180 : E_ d mX6_fact 180 ls [.ref a] h = some (some (.ref a), h) := e_rt dX6_fact_180 rfl rfl
theorem wX6_fact_180n : E_ d mX6_fact 180 ls [.null] h = some (some .null, h) := e_rt dX6_fact_180 rfl rfl
theorem wX6_fact_180q : E_ d mX6_fact 180 ls [va_rf q] h = some (some (va_rf q), h) := by cases q <;> exact e_rt dX6_fact_180 rfl rfl
theorem wX6_fact_181 : E_ d mX6_fact 181 [.val (.ref a), s1] st h = E_ d mX6_fact 182 [.val (.ref a), s1] (.ref a :: st) h := e_go dX6_fact_181 rfl rfl
theorem wX6_fact_181q : E_ d mX6_fact 181 [.val (va_rf q), s1] st h = E_ d mX6_fact 182 [.val (va_rf q), s1] (va_rf q :: st) h := by cases q <;> exact e_go dX6_fact_181 rfl rfl
theorem wX6_fact_181n : E_ d mX6_fact 181 [.val .null, s1] st h = E_ d mX6_fact 182 [.val .null, s1] (.null :: st) h := e_go dX6_fact_181 rfl rfl
theorem wX6_fact_182 : E_ d mX6_fact 182 ls st h = E_ d mX6_fact 185 ls (.ref 23 :: st) h := e_go dX6_fact_182 rfl rfl
theorem wX6_fact_185 (ht : oT h a = 8) : E_ (d + 1) mX6_fact 185 ls [.ref r1, .ref a] h = (C_ d mX6_takes [.ref a, .ref r1] h).bind fun r => E_ (d + 1) mX6_fact 188 ls (xpu r.1 []) r.2 := e_vir dX6_fact_185 rfl rfl rfl rfl rfl rfl (Nat.le_of_ble_eq_true rfl) (Nat.le_of_ble_eq_true rfl) ht
theorem wX6_fact_188 : E_ d mX6_fact 188 ls (.int x :: st) h = if x = 0 then E_ d mX6_fact 199 ls st h else E_ d mX6_fact 191 ls st h := e_zeq dX6_fact_188 rfl rfl
theorem wX6_fact_191 : E_ d mX6_fact 191 ls st h = E_ d mX6_fact 194 ls (.ref (oX h) :: st) (pO h 14 0) := e_go dX6_fact_191 rfl rfl
theorem wX6_fact_194 : E_ d mX6_fact 194 ls (.ref a :: st) h = E_ d mX6_fact 195 ls (.ref a :: .ref a :: st) h := e_go dX6_fact_194 rfl rfl
theorem wX6_fact_195 : E_ (d + 1) mX6_fact 195 ls [.ref a, .ref r1] h = (C_ d mX14_init [.ref a] h).bind fun r => E_ (d + 1) mX6_fact 198 ls (xpu r.1 [.ref r1]) r.2 := e_call dX6_fact_195 rfl rfl
theorem wX6_fact_198 : E_ d mX6_fact 198 ls [.ref a] h = some (some (.ref a), h) := e_rt dX6_fact_198 rfl rfl
theorem wX6_fact_198n : E_ d mX6_fact 198 ls [.null] h = some (some .null, h) := e_rt dX6_fact_198 rfl rfl
theorem wX6_fact_198q : E_ d mX6_fact 198 ls [va_rf q] h = some (some (va_rf q), h) := by cases q <;> exact e_rt dX6_fact_198 rfl rfl
theorem wX6_fact_199 : E_ d mX6_fact 199 [.val (.ref a), s1] st h = E_ d mX6_fact 200 [.val (.ref a), s1] (.ref a :: st) h := e_go dX6_fact_199 rfl rfl
theorem wX6_fact_199q : E_ d mX6_fact 199 [.val (va_rf q), s1] st h = E_ d mX6_fact 200 [.val (va_rf q), s1] (va_rf q :: st) h := by cases q <;> exact e_go dX6_fact_199 rfl rfl
theorem wX6_fact_199n : E_ d mX6_fact 199 [.val .null, s1] st h = E_ d mX6_fact 200 [.val .null, s1] (.null :: st) h := e_go dX6_fact_199 rfl rfl
theorem wX6_fact_200 : E_ d mX6_fact 200 ls st h = E_ d mX6_fact 203 ls (.ref 24 :: st) h := e_go dX6_fact_200 rfl rfl
theorem wX6_fact_203 (ht : oT h a = 8) : E_ (d + 1) mX6_fact 203 ls [.ref r1, .ref a] h = (C_ d mX6_takes [.ref a, .ref r1] h).bind fun r => E_ (d + 1) mX6_fact 206 ls (xpu r.1 []) r.2 := e_vir dX6_fact_203 rfl rfl rfl rfl rfl rfl (Nat.le_of_ble_eq_true rfl) (Nat.le_of_ble_eq_true rfl) ht
theorem wX6_fact_206 : E_ d mX6_fact 206 ls (.int x :: st) h = if x = 0 then E_ d mX6_fact 219 ls st h else E_ d mX6_fact 209 ls st h := e_zeq dX6_fact_206 rfl rfl
theorem wX6_fact_209 : E_ d mX6_fact 209 ls st h = E_ d mX6_fact 212 ls (.ref (oX h) :: st) (pO h 15 0) := e_go dX6_fact_209 rfl rfl
theorem wX6_fact_212 : E_ d mX6_fact 212 ls (.ref a :: st) h = E_ d mX6_fact 213 ls (.ref a :: .ref a :: st) h := e_go dX6_fact_212 rfl rfl
theorem wX6_fact_213 : E_ (d + 1) mX6_fact 213 ls [.ref a, .ref r1] h = (C_ d mX15_init [.ref a] h).bind fun r => E_ (d + 1) mX6_fact 216 ls (xpu r.1 [.ref r1]) r.2 := e_call dX6_fact_213 rfl rfl
theorem wX6_fact_216 : E_ d mX6_fact 216 ls st h = E_ d mX6_fact 223 ls st h := e_gt dX6_fact_216 rfl
theorem wX6_fact_219 : E_ d mX6_fact 219 [.val (.ref a), s1] st h = E_ d mX6_fact 220 [.val (.ref a), s1] (.ref a :: st) h := e_go dX6_fact_219 rfl rfl
theorem wX6_fact_219q : E_ d mX6_fact 219 [.val (va_rf q), s1] st h = E_ d mX6_fact 220 [.val (va_rf q), s1] (va_rf q :: st) h := by cases q <;> exact e_go dX6_fact_219 rfl rfl
theorem wX6_fact_219n : E_ d mX6_fact 219 [.val .null, s1] st h = E_ d mX6_fact 220 [.val .null, s1] (.null :: st) h := e_go dX6_fact_219 rfl rfl
theorem wX6_fact_220 (ht : oT h a = 8) : E_ (d + 1) mX6_fact 220 ls [.ref a] h = (C_ d mX6_own [.ref a] h).bind fun r => E_ (d + 1) mX6_fact 223 ls (xpu r.1 []) r.2 := e_vir dX6_fact_220 rfl rfl rfl rfl rfl rfl (Nat.le_of_ble_eq_true rfl) (Nat.le_of_ble_eq_true rfl) ht
theorem wX6_fact_223 : E_ d mX6_fact 223 ls [.ref a] h = some (some (.ref a), h) := e_rt dX6_fact_223 rfl rfl
theorem wX6_fact_223n : E_ d mX6_fact 223 ls [.null] h = some (some .null, h) := e_rt dX6_fact_223 rfl rfl
theorem wX6_fact_223q : E_ d mX6_fact 223 ls [va_rf q] h = some (some (va_rf q), h) := by cases q <;> exact e_rt dX6_fact_223 rfl rfl
/-! FootOut$Reader.opens -/
theorem wX6_opens_0 : E_ d mX6_opens 0 [.val (.ref a)] st h = E_ d mX6_opens 1 [.val (.ref a)] (.ref a :: st) h := e_go dX6_opens_0 rfl rfl
theorem wX6_opens_0q : E_ d mX6_opens 0 [.val (va_rf q)] st h = E_ d mX6_opens 1 [.val (va_rf q)] (va_rf q :: st) h := by cases q <;> exact e_go dX6_opens_0 rfl rfl
theorem wX6_opens_0n : E_ d mX6_opens 0 [.val .null] st h = E_ d mX6_opens 1 [.val .null] (.null :: st) h := e_go dX6_opens_0 rfl rfl
theorem wX6_opens_1 (ht : oT h a = 8) : E_ d mX6_opens 1 ls (.ref a :: st) h = E_ d mX6_opens 4 ls (.int (oI h a 7) :: st) h := e_getI dX6_opens_1 rfl rfl ht
theorem wX6_opens_4 : E_ d mX6_opens 4 ls st h = E_ d mX6_opens 6 ls (.int (nI 8) :: st) h := e_bipush dX6_opens_4 kbipush_8 rfl
theorem wX6_opens_6 : E_ d mX6_opens 6 ls (.int y :: .int x :: st) h = if x = y then E_ d mX6_opens 9 ls st h else E_ d mX6_opens 14 ls st h := e_ine dX6_opens_6 rfl rfl
theorem wX6_opens_9 : E_ d mX6_opens 9 [.val (.ref a)] st h = E_ d mX6_opens 10 [.val (.ref a)] (.ref a :: st) h := e_go dX6_opens_9 rfl rfl
theorem wX6_opens_9q : E_ d mX6_opens 9 [.val (va_rf q)] st h = E_ d mX6_opens 10 [.val (va_rf q)] (va_rf q :: st) h := by cases q <;> exact e_go dX6_opens_9 rfl rfl
theorem wX6_opens_9n : E_ d mX6_opens 9 [.val .null] st h = E_ d mX6_opens 10 [.val .null] (.null :: st) h := e_go dX6_opens_9 rfl rfl
theorem wX6_opens_10 : E_ d mX6_opens 10 ls st h = E_ d mX6_opens 11 ls (.int (nI 5) :: st) h := e_iconst dX6_opens_10 kiconst_5 rfl
theorem wX6_opens_11 (ht : oT h a = 8) : E_ (d + 1) mX6_opens 11 ls [.int x1, .ref a] h = (C_ d mX6_wrong [.ref a, .int x1] h).bind fun r => E_ (d + 1) mX6_opens 14 ls (xpu r.1 []) r.2 := e_vir dX6_opens_11 rfl rfl rfl rfl rfl rfl (Nat.le_of_ble_eq_true rfl) (Nat.le_of_ble_eq_true rfl) ht
theorem wX6_opens_14 : E_ d mX6_opens 14 [.val (.ref a)] st h = E_ d mX6_opens 15 [.val (.ref a)] (.ref a :: st) h := e_go dX6_opens_14 rfl rfl
theorem wX6_opens_14q : E_ d mX6_opens 14 [.val (va_rf q)] st h = E_ d mX6_opens 15 [.val (va_rf q)] (va_rf q :: st) h := by cases q <;> exact e_go dX6_opens_14 rfl rfl
theorem wX6_opens_14n : E_ d mX6_opens 14 [.val .null] st h = E_ d mX6_opens 15 [.val .null] (.null :: st) h := e_go dX6_opens_14 rfl rfl
theorem wX6_opens_15 : E_ d mX6_opens 15 ls (.ref a :: st) h = E_ d mX6_opens 16 ls (.ref a :: .ref a :: st) h := e_go dX6_opens_15 rfl rfl
theorem wX6_opens_16 (ht : oT h a = 8) : E_ d mX6_opens 16 ls (.ref a :: st) h = E_ d mX6_opens 19 ls (.int (oI h a 7) :: st) h := e_getI dX6_opens_16 rfl rfl ht
theorem wX6_opens_19 : E_ d mX6_opens 19 ls st h = E_ d mX6_opens 20 ls (.int (nI 1) :: st) h := e_iconst dX6_opens_19 kiconst_1 rfl
theorem wX6_opens_20 : E_ d mX6_opens 20 ls (.int y :: .int x :: st) h = E_ d mX6_opens 21 ls (.int (x + y) :: st) h := e_go dX6_opens_20 rfl rfl
theorem wX6_opens_21 (ht : oT h a = 8) : E_ d mX6_opens 21 ls (.int x :: .ref a :: st) h = E_ d mX6_opens 24 ls st (pI h a (va_up (oI h a) 7 x)) := e_putI dX6_opens_21 rfl rfl ht
theorem wX6_opens_24 : E_ d mX6_opens 24 [.val (.ref a)] st h = E_ d mX6_opens 25 [.val (.ref a)] (.ref a :: st) h := e_go dX6_opens_24 rfl rfl
theorem wX6_opens_24q : E_ d mX6_opens 24 [.val (va_rf q)] st h = E_ d mX6_opens 25 [.val (va_rf q)] (va_rf q :: st) h := by cases q <;> exact e_go dX6_opens_24 rfl rfl
theorem wX6_opens_24n : E_ d mX6_opens 24 [.val .null] st h = E_ d mX6_opens 25 [.val .null] (.null :: st) h := e_go dX6_opens_24 rfl rfl
theorem wX6_opens_25 (ht : oT h a = 8) : E_ d mX6_opens 25 ls (.ref a :: st) h = E_ d mX6_opens 28 ls (.int (oI h a 8) :: st) h := e_getI dX6_opens_25 rfl rfl ht
theorem wX6_opens_28 : E_ d mX6_opens 28 ls (.int x :: st) h = if x = 0 then E_ d mX6_opens 31 ls st h else E_ d mX6_opens 35 ls st h := e_zne dX6_opens_28 rfl rfl
theorem wX6_opens_31 : E_ d mX6_opens 31 [.val (.ref a)] st h = E_ d mX6_opens 32 [.val (.ref a)] (.ref a :: st) h := e_go dX6_opens_31 rfl rfl
theorem wX6_opens_31q : E_ d mX6_opens 31 [.val (va_rf q)] st h = E_ d mX6_opens 32 [.val (va_rf q)] (va_rf q :: st) h := by cases q <;> exact e_go dX6_opens_31 rfl rfl
theorem wX6_opens_31n : E_ d mX6_opens 31 [.val .null] st h = E_ d mX6_opens 32 [.val .null] (.null :: st) h := e_go dX6_opens_31 rfl rfl
theorem wX6_opens_32 (ht : oT h a = 8) : E_ (d + 1) mX6_opens 32 ls [.ref a] h = (C_ d mX6_next [.ref a] h).bind fun r => E_ (d + 1) mX6_opens 35 ls (xpu r.1 []) r.2 := e_vir dX6_opens_32 rfl rfl rfl rfl rfl rfl (Nat.le_of_ble_eq_true rfl) (Nat.le_of_ble_eq_true rfl) ht
theorem wX6_opens_35 : E_ d mX6_opens 35 ls [] h = some (none, h) := e_rt dX6_opens_35 rfl rfl
/-! FootOut$Reader.own -/
theorem wX6_own_0 : E_ d mX6_own 0 [.val (.ref a), s1] st h = E_ d mX6_own 1 [.val (.ref a), s1] (.ref a :: st) h := e_go dX6_own_0 rfl rfl
theorem wX6_own_0q : E_ d mX6_own 0 [.val (va_rf q), s1] st h = E_ d mX6_own 1 [.val (va_rf q), s1] (va_rf q :: st) h := by cases q <;> exact e_go dX6_own_0 rfl rfl
theorem wX6_own_0n : E_ d mX6_own 0 [.val .null, s1] st h = E_ d mX6_own 1 [.val .null, s1] (.null :: st) h := e_go dX6_own_0 rfl rfl
theorem wX6_own_1 : E_ d mX6_own 1 ls st h = E_ d mX6_own 4 ls (.ref 25 :: st) h := e_go dX6_own_1 rfl rfl
theorem wX6_own_4 (ht : oT h a = 8) : E_ (d + 1) mX6_own 4 ls [.ref r1, .ref a] h = (C_ d mX6_takes [.ref a, .ref r1] h).bind fun r => E_ (d + 1) mX6_own 7 ls (xpu r.1 []) r.2 := e_vir dX6_own_4 rfl rfl rfl rfl rfl rfl (Nat.le_of_ble_eq_true rfl) (Nat.le_of_ble_eq_true rfl) ht
theorem wX6_own_7 : E_ d mX6_own 7 ls (.int x :: st) h = if x = 0 then E_ d mX6_own 14 ls st h else E_ d mX6_own 10 ls st h := e_zeq dX6_own_7 rfl rfl
theorem wX6_own_10 : E_ d mX6_own 10 ls st h = E_ d mX6_own 11 ls (.int (nI 0) :: st) h := e_iconst dX6_own_10 kiconst_0 rfl
theorem wX6_own_11 : E_ d mX6_own 11 ls st h = E_ d mX6_own 56 ls st h := e_gt dX6_own_11 rfl
theorem wX6_own_14 : E_ d mX6_own 14 [.val (.ref a), s1] st h = E_ d mX6_own 15 [.val (.ref a), s1] (.ref a :: st) h := e_go dX6_own_14 rfl rfl
theorem wX6_own_14q : E_ d mX6_own 14 [.val (va_rf q), s1] st h = E_ d mX6_own 15 [.val (va_rf q), s1] (va_rf q :: st) h := by cases q <;> exact e_go dX6_own_14 rfl rfl
theorem wX6_own_14n : E_ d mX6_own 14 [.val .null, s1] st h = E_ d mX6_own 15 [.val .null, s1] (.null :: st) h := e_go dX6_own_14 rfl rfl
theorem wX6_own_15 : E_ d mX6_own 15 ls st h = E_ d mX6_own 18 ls (.ref 26 :: st) h := e_go dX6_own_15 rfl rfl
theorem wX6_own_18 (ht : oT h a = 8) : E_ (d + 1) mX6_own 18 ls [.ref r1, .ref a] h = (C_ d mX6_takes [.ref a, .ref r1] h).bind fun r => E_ (d + 1) mX6_own 21 ls (xpu r.1 []) r.2 := e_vir dX6_own_18 rfl rfl rfl rfl rfl rfl (Nat.le_of_ble_eq_true rfl) (Nat.le_of_ble_eq_true rfl) ht
theorem wX6_own_21 : E_ d mX6_own 21 ls (.int x :: st) h = if x = 0 then E_ d mX6_own 28 ls st h else E_ d mX6_own 24 ls st h := e_zeq dX6_own_21 rfl rfl
theorem wX6_own_24 : E_ d mX6_own 24 ls st h = E_ d mX6_own 25 ls (.int (nI 1) :: st) h := e_iconst dX6_own_24 kiconst_1 rfl
theorem wX6_own_25 : E_ d mX6_own 25 ls st h = E_ d mX6_own 56 ls st h := e_gt dX6_own_25 rfl
theorem wX6_own_28 : E_ d mX6_own 28 [.val (.ref a), s1] st h = E_ d mX6_own 29 [.val (.ref a), s1] (.ref a :: st) h := e_go dX6_own_28 rfl rfl
theorem wX6_own_28q : E_ d mX6_own 28 [.val (va_rf q), s1] st h = E_ d mX6_own 29 [.val (va_rf q), s1] (va_rf q :: st) h := by cases q <;> exact e_go dX6_own_28 rfl rfl
theorem wX6_own_28n : E_ d mX6_own 28 [.val .null, s1] st h = E_ d mX6_own 29 [.val .null, s1] (.null :: st) h := e_go dX6_own_28 rfl rfl
theorem wX6_own_29 : E_ d mX6_own 29 ls st h = E_ d mX6_own 32 ls (.ref 27 :: st) h := e_go dX6_own_29 rfl rfl
theorem wX6_own_32 (ht : oT h a = 8) : E_ (d + 1) mX6_own 32 ls [.ref r1, .ref a] h = (C_ d mX6_takes [.ref a, .ref r1] h).bind fun r => E_ (d + 1) mX6_own 35 ls (xpu r.1 []) r.2 := e_vir dX6_own_32 rfl rfl rfl rfl rfl rfl (Nat.le_of_ble_eq_true rfl) (Nat.le_of_ble_eq_true rfl) ht
theorem wX6_own_35 : E_ d mX6_own 35 ls (.int x :: st) h = if x = 0 then E_ d mX6_own 42 ls st h else E_ d mX6_own 38 ls st h := e_zeq dX6_own_35 rfl rfl
theorem wX6_own_38 : E_ d mX6_own 38 ls st h = E_ d mX6_own 39 ls (.int (nI 2) :: st) h := e_iconst dX6_own_38 kiconst_2 rfl
theorem wX6_own_39 : E_ d mX6_own 39 ls st h = E_ d mX6_own 56 ls st h := e_gt dX6_own_39 rfl
theorem wX6_own_42 : E_ d mX6_own 42 [.val (.ref a), s1] st h = E_ d mX6_own 43 [.val (.ref a), s1] (.ref a :: st) h := e_go dX6_own_42 rfl rfl
theorem wX6_own_42q : E_ d mX6_own 42 [.val (va_rf q), s1] st h = E_ d mX6_own 43 [.val (va_rf q), s1] (va_rf q :: st) h := by cases q <;> exact e_go dX6_own_42 rfl rfl
theorem wX6_own_42n : E_ d mX6_own 42 [.val .null, s1] st h = E_ d mX6_own 43 [.val .null, s1] (.null :: st) h := e_go dX6_own_42 rfl rfl
theorem wX6_own_43 : E_ d mX6_own 43 ls st h = E_ d mX6_own 45 ls (.ref 4 :: st) h := e_go dX6_own_43 rfl rfl
theorem wX6_own_45 (ht : oT h a = 8) : E_ (d + 1) mX6_own 45 ls [.ref r1, .ref a] h = (C_ d mX6_takes [.ref a, .ref r1] h).bind fun r => E_ (d + 1) mX6_own 48 ls (xpu r.1 []) r.2 := e_vir dX6_own_45 rfl rfl rfl rfl rfl rfl (Nat.le_of_ble_eq_true rfl) (Nat.le_of_ble_eq_true rfl) ht
theorem wX6_own_48 : E_ d mX6_own 48 ls (.int x :: st) h = if x = 0 then E_ d mX6_own 55 ls st h else E_ d mX6_own 51 ls st h := e_zeq dX6_own_48 rfl rfl
theorem wX6_own_51 : E_ d mX6_own 51 ls st h = E_ d mX6_own 52 ls (.int (nI 3) :: st) h := e_iconst dX6_own_51 kiconst_3 rfl
theorem wX6_own_52 : E_ d mX6_own 52 ls st h = E_ d mX6_own 56 ls st h := e_gt dX6_own_52 rfl
theorem wX6_own_55 : E_ d mX6_own 55 ls st h = E_ d mX6_own 56 ls (.int ((-1)) :: st) h := e_iconst dX6_own_55 kiconst_m1 rfl
theorem wX6_own_56 : E_ d mX6_own 56 [s0, s1] (.int x :: st) h = E_ d mX6_own 57 [xk s0, .val (.int x)] st h := e_go dX6_own_56 rfl rfl
theorem wX6_own_57 : E_ d mX6_own 57 [s0, .val (.int x)] st h = E_ d mX6_own 58 [s0, .val (.int x)] (.int x :: st) h := e_go dX6_own_57 rfl rfl
theorem wX6_own_58 : E_ d mX6_own 58 ls st h = E_ d mX6_own 59 ls (.int ((-1)) :: st) h := e_iconst dX6_own_58 kiconst_m1 rfl
theorem wX6_own_59 : E_ d mX6_own 59 ls (.int y :: .int x :: st) h = if x = y then E_ d mX6_own 62 ls st h else E_ d mX6_own 67 ls st h := e_ine dX6_own_59 rfl rfl
theorem wX6_own_62 : E_ d mX6_own 62 [.val (.ref a), s1] st h = E_ d mX6_own 63 [.val (.ref a), s1] (.ref a :: st) h := e_go dX6_own_62 rfl rfl
theorem wX6_own_62q : E_ d mX6_own 62 [.val (va_rf q), s1] st h = E_ d mX6_own 63 [.val (va_rf q), s1] (va_rf q :: st) h := by cases q <;> exact e_go dX6_own_62 rfl rfl
theorem wX6_own_62n : E_ d mX6_own 62 [.val .null, s1] st h = E_ d mX6_own 63 [.val .null, s1] (.null :: st) h := e_go dX6_own_62 rfl rfl
theorem wX6_own_63 : E_ d mX6_own 63 ls st h = E_ d mX6_own 64 ls (.int (nI 2) :: st) h := e_iconst dX6_own_63 kiconst_2 rfl
theorem wX6_own_64 (ht : oT h a = 8) : E_ (d + 1) mX6_own 64 ls [.int x1, .ref a] h = (C_ d mX6_wrong [.ref a, .int x1] h).bind fun r => E_ (d + 1) mX6_own 67 ls (xpu r.1 []) r.2 := e_vir dX6_own_64 rfl rfl rfl rfl rfl rfl (Nat.le_of_ble_eq_true rfl) (Nat.le_of_ble_eq_true rfl) ht
theorem wX6_own_67 : E_ d mX6_own 67 ls st h = E_ d mX6_own 70 ls (.ref (oX h) :: st) (pO h 16 2) := e_go dX6_own_67 rfl rfl
theorem wX6_own_70 : E_ d mX6_own 70 ls (.ref a :: st) h = E_ d mX6_own 71 ls (.ref a :: .ref a :: st) h := e_go dX6_own_70 rfl rfl
theorem wX6_own_71 : E_ d mX6_own 71 [s0, .val (.int x)] st h = E_ d mX6_own 72 [s0, .val (.int x)] (.int x :: st) h := e_go dX6_own_71 rfl rfl
theorem wX6_own_72 : E_ d mX6_own 72 [.val (.ref a), s1] st h = E_ d mX6_own 73 [.val (.ref a), s1] (.ref a :: st) h := e_go dX6_own_72 rfl rfl
theorem wX6_own_72q : E_ d mX6_own 72 [.val (va_rf q), s1] st h = E_ d mX6_own 73 [.val (va_rf q), s1] (va_rf q :: st) h := by cases q <;> exact e_go dX6_own_72 rfl rfl
theorem wX6_own_72n : E_ d mX6_own 72 [.val .null, s1] st h = E_ d mX6_own 73 [.val .null, s1] (.null :: st) h := e_go dX6_own_72 rfl rfl
theorem wX6_own_73 : E_ d mX6_own 73 ls st h = E_ d mX6_own 74 ls (.int (nI 0) :: st) h := e_iconst dX6_own_73 kiconst_0 rfl
theorem wX6_own_74 : E_ d mX6_own 74 ls st h = E_ d mX6_own 77 ls (.int (nI 999) :: st) h := e_sipush dX6_own_74 ksipush_999 rfl
theorem wX6_own_77 (ht : oT h a = 8) : E_ (d + 1) mX6_own 77 ls [.int x2, .int x1, .ref a, .int x3, .ref r1, .ref r2] h = (C_ d mX6_number [.ref a, .int x1, .int x2] h).bind fun r => E_ (d + 1) mX6_own 80 ls (xpu r.1 [.int x3, .ref r1, .ref r2]) r.2 := e_vir dX6_own_77 rfl rfl rfl rfl rfl rfl (Nat.le_of_ble_eq_true rfl) (Nat.le_of_ble_eq_true rfl) ht
theorem wX6_own_80 : E_ (d + 1) mX6_own 80 ls [.int x2, .int x1, .ref a, .ref r1] h = (C_ d mX16_init [.ref a, .int x1, .int x2] h).bind fun r => E_ (d + 1) mX6_own 83 ls (xpu r.1 [.ref r1]) r.2 := e_call dX6_own_80 rfl rfl
theorem wX6_own_83 : E_ d mX6_own 83 ls [.ref a] h = some (some (.ref a), h) := e_rt dX6_own_83 rfl rfl
theorem wX6_own_83n : E_ d mX6_own 83 ls [.null] h = some (some .null, h) := e_rt dX6_own_83 rfl rfl
theorem wX6_own_83q : E_ d mX6_own 83 ls [va_rf q] h = some (some (va_rf q), h) := by cases q <;> exact e_rt dX6_own_83 rfl rfl
/-! FootOut$Car.<init> -/
theorem wX7_init_0 : E_ d mX7_init 0 [.val (.ref a), s1, s2, s3, s4] st h = E_ d mX7_init 1 [.val (.ref a), s1, s2, s3, s4] (.ref a :: st) h := e_go dX7_init_0 rfl rfl
theorem wX7_init_1 : E_ d mX7_init 1 ls [.ref a] h = E_ d mX7_init 4 ls [] h := e_go dX7_init_1 rfl rfl
theorem wX7_init_4 : E_ d mX7_init 4 [.val (.ref a), s1, s2, s3, s4] st h = E_ d mX7_init 5 [.val (.ref a), s1, s2, s3, s4] (.ref a :: st) h := e_go dX7_init_4 rfl rfl
theorem wX7_init_5 : E_ d mX7_init 5 [s0, .val (.int x), s2, s3, s4] st h = E_ d mX7_init 6 [s0, .val (.int x), s2, s3, s4] (.int x :: st) h := e_go dX7_init_5 rfl rfl
theorem wX7_init_6 (ht : oT h a = 9) : E_ d mX7_init 6 ls (.int x :: .ref a :: st) h = E_ d mX7_init 9 ls st (pI h a (va_up (oI h a) 0 x)) := e_putI0 dX7_init_6 rfl rfl rfl ht
theorem wX7_init_9 : E_ d mX7_init 9 [.val (.ref a), s1, s2, s3, s4] st h = E_ d mX7_init 10 [.val (.ref a), s1, s2, s3, s4] (.ref a :: st) h := e_go dX7_init_9 rfl rfl
theorem wX7_init_10 : E_ d mX7_init 10 [s0, s1, .val (.int x), s3, s4] st h = E_ d mX7_init 11 [s0, s1, .val (.int x), s3, s4] (.int x :: st) h := e_go dX7_init_10 rfl rfl
theorem wX7_init_11 (ht : oT h a = 9) : E_ d mX7_init 11 ls (.int x :: .ref a :: st) h = E_ d mX7_init 14 ls st (pI h a (va_up (oI h a) 1 x)) := e_putI0 dX7_init_11 rfl rfl rfl ht
theorem wX7_init_14 : E_ d mX7_init 14 [.val (.ref a), s1, s2, s3, s4] st h = E_ d mX7_init 15 [.val (.ref a), s1, s2, s3, s4] (.ref a :: st) h := e_go dX7_init_14 rfl rfl
theorem wX7_init_15 : E_ d mX7_init 15 [s0, s1, s2, .val (.int x), s4] st h = E_ d mX7_init 16 [s0, s1, s2, .val (.int x), s4] (.int x :: st) h := e_go dX7_init_15 rfl rfl
theorem wX7_init_16 (ht : oT h a = 9) : E_ d mX7_init 16 ls (.int x :: .ref a :: st) h = E_ d mX7_init 19 ls st (pI h a (va_up (oI h a) 2 x)) := e_putI0 dX7_init_16 rfl rfl rfl ht
theorem wX7_init_19 : E_ d mX7_init 19 [.val (.ref a), s1, s2, s3, s4] st h = E_ d mX7_init 20 [.val (.ref a), s1, s2, s3, s4] (.ref a :: st) h := e_go dX7_init_19 rfl rfl
theorem wX7_init_20 : E_ d mX7_init 20 [s0, s1, s2, s3, .val (.int x)] st h = E_ d mX7_init 22 [s0, s1, s2, s3, .val (.int x)] (.int x :: st) h := e_go dX7_init_20 rfl rfl
theorem wX7_init_22 (ht : oT h a = 9) : E_ d mX7_init 22 ls (.int x :: .ref a :: st) h = E_ d mX7_init 25 ls st (pI h a (va_up (oI h a) 3 x)) := e_putI0 dX7_init_22 rfl rfl rfl ht
theorem wX7_init_25 : E_ d mX7_init 25 ls [] h = some (none, h) := e_rt dX7_init_25 rfl rfl
/-! FootOut$Fact.<init> -/
theorem wX8_init_0 : E_ d mX8_init 0 [.val (.ref a)] st h = E_ d mX8_init 1 [.val (.ref a)] (.ref a :: st) h := e_go dX8_init_0 rfl rfl
theorem wX8_init_1 : E_ d mX8_init 1 ls [.ref a] h = E_ d mX8_init 4 ls [] h := e_go dX8_init_1 rfl rfl
theorem wX8_init_4 : E_ d mX8_init 4 ls [] h = some (none, h) := e_rt dX8_init_4 rfl rfl
/-! FootOut$Not.<init> -/
theorem wX9_init_0 : E_ d mX9_init 0 [.val (.ref a), s1] st h = E_ d mX9_init 1 [.val (.ref a), s1] (.ref a :: st) h := e_go dX9_init_0 rfl rfl
theorem wX9_init_0q : E_ d mX9_init 0 [.val (va_rf q), s1] st h = E_ d mX9_init 1 [.val (va_rf q), s1] (va_rf q :: st) h := by cases q <;> exact e_go dX9_init_0 rfl rfl
theorem wX9_init_0n : E_ d mX9_init 0 [.val .null, s1] st h = E_ d mX9_init 1 [.val .null, s1] (.null :: st) h := e_go dX9_init_0 rfl rfl
theorem wX9_init_1 : E_ (d + 1) mX9_init 1 ls [.ref a] h = (C_ d mX8_init [.ref a] h).bind fun r => E_ (d + 1) mX9_init 4 ls (xpu r.1 []) r.2 := e_call dX9_init_1 rfl rfl
theorem wX9_init_4 : E_ d mX9_init 4 [.val (.ref a), s1] st h = E_ d mX9_init 5 [.val (.ref a), s1] (.ref a :: st) h := e_go dX9_init_4 rfl rfl
theorem wX9_init_4q : E_ d mX9_init 4 [.val (va_rf q), s1] st h = E_ d mX9_init 5 [.val (va_rf q), s1] (va_rf q :: st) h := by cases q <;> exact e_go dX9_init_4 rfl rfl
theorem wX9_init_4n : E_ d mX9_init 4 [.val .null, s1] st h = E_ d mX9_init 5 [.val .null, s1] (.null :: st) h := e_go dX9_init_4 rfl rfl
theorem wX9_init_5 : E_ d mX9_init 5 [s0, .val (.ref a)] st h = E_ d mX9_init 6 [s0, .val (.ref a)] (.ref a :: st) h := e_go dX9_init_5 rfl rfl
theorem wX9_init_5q : E_ d mX9_init 5 [s0, .val (va_rf q)] st h = E_ d mX9_init 6 [s0, .val (va_rf q)] (va_rf q :: st) h := by cases q <;> exact e_go dX9_init_5 rfl rfl
theorem wX9_init_5n : E_ d mX9_init 5 [s0, .val .null] st h = E_ d mX9_init 6 [s0, .val .null] (.null :: st) h := e_go dX9_init_5 rfl rfl
theorem wX9_init_6 (ht : oT h a = 10) : E_ d mX9_init 6 ls (.ref b :: .ref a :: st) h = E_ d mX9_init 9 ls st (pR h a (va_up (oR h a) 0 (some b))) := e_putR0 dX9_init_6 rfl rfl rfl ht
theorem wX9_init_6q (ht : oT h a = 10) : E_ d mX9_init 6 ls (va_rf q :: .ref a :: st) h = E_ d mX9_init 9 ls st (pR h a (va_up (oR h a) 0 q)) := e_putR0q dX9_init_6 rfl rfl rfl ht
theorem wX9_init_9 : E_ d mX9_init 9 ls [] h = some (none, h) := e_rt dX9_init_9 rfl rfl
/-! FootOut$Not.is -/
theorem wX9_is_0 : E_ d mX9_is 0 [.val (.ref a), s1, s2] st h = E_ d mX9_is 1 [.val (.ref a), s1, s2] (.ref a :: st) h := e_go dX9_is_0 rfl rfl
theorem wX9_is_0q : E_ d mX9_is 0 [.val (va_rf q), s1, s2] st h = E_ d mX9_is 1 [.val (va_rf q), s1, s2] (va_rf q :: st) h := by cases q <;> exact e_go dX9_is_0 rfl rfl
theorem wX9_is_0n : E_ d mX9_is 0 [.val .null, s1, s2] st h = E_ d mX9_is 1 [.val .null, s1, s2] (.null :: st) h := e_go dX9_is_0 rfl rfl
theorem wX9_is_1 (ht : oT h a = 10) : E_ d mX9_is 1 ls (.ref a :: st) h = E_ d mX9_is 4 ls (va_rf (oR h a 0) :: st) h := e_getR0 dX9_is_1 rfl rfl ht
theorem wX9_is_4 : E_ d mX9_is 4 [s0, .val (.ref a), s2] st h = E_ d mX9_is 5 [s0, .val (.ref a), s2] (.ref a :: st) h := e_go dX9_is_4 rfl rfl
theorem wX9_is_4q : E_ d mX9_is 4 [s0, .val (va_rf q), s2] st h = E_ d mX9_is 5 [s0, .val (va_rf q), s2] (va_rf q :: st) h := by cases q <;> exact e_go dX9_is_4 rfl rfl
theorem wX9_is_4n : E_ d mX9_is 4 [s0, .val .null, s2] st h = E_ d mX9_is 5 [s0, .val .null, s2] (.null :: st) h := e_go dX9_is_4 rfl rfl
theorem wX9_is_5 : E_ d mX9_is 5 [s0, s1, .val (.int x)] st h = E_ d mX9_is 6 [s0, s1, .val (.int x)] (.int x :: st) h := e_go dX9_is_5 rfl rfl
theorem wX9_is_6t10 (ht : oT h a = 10) : E_ (d + 1) mX9_is 6 ls [.int x1, .ref r1, .ref a] h = (C_ d mX9_is [.ref a, .ref r1, .int x1] h).bind fun r => E_ (d + 1) mX9_is 9 ls (xpu r.1 []) r.2 := e_vir dX9_is_6 rfl rfl rfl rfl rfl rfl (Nat.le_of_ble_eq_true rfl) (Nat.le_of_ble_eq_true rfl) ht
theorem wX9_is_6t11 (ht : oT h a = 11) : E_ (d + 1) mX9_is 6 ls [.int x1, .ref r1, .ref a] h = (C_ d mX10_is [.ref a, .ref r1, .int x1] h).bind fun r => E_ (d + 1) mX9_is 9 ls (xpu r.1 []) r.2 := e_vir dX9_is_6 rfl rfl rfl rfl rfl rfl (Nat.le_of_ble_eq_true rfl) (Nat.le_of_ble_eq_true rfl) ht
theorem wX9_is_6t12 (ht : oT h a = 12) : E_ (d + 1) mX9_is 6 ls [.int x1, .ref r1, .ref a] h = (C_ d mX11_is [.ref a, .ref r1, .int x1] h).bind fun r => E_ (d + 1) mX9_is 9 ls (xpu r.1 []) r.2 := e_vir dX9_is_6 rfl rfl rfl rfl rfl rfl (Nat.le_of_ble_eq_true rfl) (Nat.le_of_ble_eq_true rfl) ht
theorem wX9_is_6t13 (ht : oT h a = 13) : E_ (d + 1) mX9_is 6 ls [.int x1, .ref r1, .ref a] h = (C_ d mX11_is [.ref a, .ref r1, .int x1] h).bind fun r => E_ (d + 1) mX9_is 9 ls (xpu r.1 []) r.2 := e_vir dX9_is_6 rfl rfl rfl rfl rfl rfl (Nat.le_of_ble_eq_true rfl) (Nat.le_of_ble_eq_true rfl) ht
theorem wX9_is_6t14 (ht : oT h a = 14) : E_ (d + 1) mX9_is 6 ls [.int x1, .ref r1, .ref a] h = (C_ d mX11_is [.ref a, .ref r1, .int x1] h).bind fun r => E_ (d + 1) mX9_is 9 ls (xpu r.1 []) r.2 := e_vir dX9_is_6 rfl rfl rfl rfl rfl rfl (Nat.le_of_ble_eq_true rfl) (Nat.le_of_ble_eq_true rfl) ht
theorem wX9_is_6t15 (ht : oT h a = 15) : E_ (d + 1) mX9_is 6 ls [.int x1, .ref r1, .ref a] h = (C_ d mX15_is [.ref a, .ref r1, .int x1] h).bind fun r => E_ (d + 1) mX9_is 9 ls (xpu r.1 []) r.2 := e_vir dX9_is_6 rfl rfl rfl rfl rfl rfl (Nat.le_of_ble_eq_true rfl) (Nat.le_of_ble_eq_true rfl) ht
theorem wX9_is_6t16 (ht : oT h a = 16) : E_ (d + 1) mX9_is 6 ls [.int x1, .ref r1, .ref a] h = (C_ d mX16_is [.ref a, .ref r1, .int x1] h).bind fun r => E_ (d + 1) mX9_is 9 ls (xpu r.1 []) r.2 := e_vir dX9_is_6 rfl rfl rfl rfl rfl rfl (Nat.le_of_ble_eq_true rfl) (Nat.le_of_ble_eq_true rfl) ht
theorem wX9_is_6t17 (ht : oT h a = 17) : E_ (d + 1) mX9_is 6 ls [.int x1, .ref r1, .ref a] h = (C_ d mX17_is [.ref a, .ref r1, .int x1] h).bind fun r => E_ (d + 1) mX9_is 9 ls (xpu r.1 []) r.2 := e_vir dX9_is_6 rfl rfl rfl rfl rfl rfl (Nat.le_of_ble_eq_true rfl) (Nat.le_of_ble_eq_true rfl) ht
theorem wX9_is_9 : E_ d mX9_is 9 ls (.int x :: st) h = if x = 0 then E_ d mX9_is 12 ls st h else E_ d mX9_is 16 ls st h := e_zne dX9_is_9 rfl rfl
theorem wX9_is_12 : E_ d mX9_is 12 ls st h = E_ d mX9_is 13 ls (.int (nI 1) :: st) h := e_iconst dX9_is_12 kiconst_1 rfl
theorem wX9_is_13 : E_ d mX9_is 13 ls st h = E_ d mX9_is 17 ls st h := e_gt dX9_is_13 rfl
theorem wX9_is_16 : E_ d mX9_is 16 ls st h = E_ d mX9_is 17 ls (.int (nI 0) :: st) h := e_iconst dX9_is_16 kiconst_0 rfl
theorem wX9_is_17 (hx : x = 0 ∨ x = 1) : E_ d mX9_is 17 ls [.int x] h = some (some (.int x), h) := e_rtZ dX9_is_17 rfl hx
