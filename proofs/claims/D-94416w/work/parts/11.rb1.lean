variable {d a b e f : Nat} {ls : List Slot} {st : List Value} {h : xH} {x y z x1 x2 x3 x4 x5 x6 x7 x8 : Int32} {u v u1 u2 u3 u4 u5 u6 : Int64} {r1 r2 r3 r4 r5 r6 : Nat} {s0 s1 s2 s3 s4 s5 s6 s7 s8 s9 s10 s11 s12 s13 : Slot} {q : Option Nat}
/-! FootOut.<init> -/
theorem wX0_init_0 : E_ d mX0_init 0 [.val (.ref a)] st h = E_ d mX0_init 1 [.val (.ref a)] (.ref a :: st) h := e_go dX0_init_0 rfl rfl
theorem wX0_init_1 : E_ d mX0_init 1 ls [.ref a] h = E_ d mX0_init 4 ls [] h := e_go dX0_init_1 rfl rfl
theorem wX0_init_4 : E_ d mX0_init 4 [.val (.ref a)] st h = E_ d mX0_init 5 [.val (.ref a)] (.ref a :: st) h := e_go dX0_init_4 rfl rfl
theorem wX0_init_5 : E_ d mX0_init 5 ls st h = E_ d mX0_init 8 ls (.ref (oX h) :: st) (pO h 2 6) := e_go dX0_init_5 rfl rfl
theorem wX0_init_8 : E_ d mX0_init 8 ls (.ref a :: st) h = E_ d mX0_init 9 ls (.ref a :: .ref a :: st) h := e_go dX0_init_8 rfl rfl
theorem wX0_init_9 : E_ (d + 1) mX0_init 9 ls [.ref a, .ref r1, .ref r2] h = (C_ d mX1_init [.ref a] h).bind fun r => E_ (d + 1) mX0_init 12 ls (xpu r.1 [.ref r1, .ref r2]) r.2 := e_call dX0_init_9 rfl rfl
theorem wX0_init_12 (ht : oT h a = 1) : E_ d mX0_init 12 ls (.ref b :: .ref a :: st) h = E_ d mX0_init 15 ls st (pR h a (va_up (oR h a) 0 (some b))) := e_putR dX0_init_12 rfl rfl ht
theorem wX0_init_15 : E_ d mX0_init 15 [.val (.ref a)] st h = E_ d mX0_init 16 [.val (.ref a)] (.ref a :: st) h := e_go dX0_init_15 rfl rfl
theorem wX0_init_16 : E_ d mX0_init 16 ls st h = E_ d mX0_init 17 ls (.int (nI 2) :: st) h := e_iconst dX0_init_16 kiconst_2 rfl
theorem wX0_init_17 (h0 : 0 ≤ x.toInt) (h1 : x.toInt ≤ 65536) : E_ d mX0_init 17 ls (.int x :: st) h = E_ d mX0_init 20 ls (.ref (oX h) :: st) (pO h 48 x.toNatClampNeg) := e_newq dX0_init_17 rfl rfl h0 h1
theorem wX0_init_20 (ht : oT h a = 1) : E_ d mX0_init 20 ls (.ref b :: .ref a :: st) h = E_ d mX0_init 23 ls st (pR h a (va_up (oR h a) 1 (some b))) := e_putR0 dX0_init_20 rfl rfl rfl ht
theorem wX0_init_20q (ht : oT h a = 1) : E_ d mX0_init 20 ls (va_rf q :: .ref a :: st) h = E_ d mX0_init 23 ls st (pR h a (va_up (oR h a) 1 q)) := e_putR0q dX0_init_20 rfl rfl rfl ht
theorem wX0_init_23 : E_ d mX0_init 23 [.val (.ref a)] st h = E_ d mX0_init 24 [.val (.ref a)] (.ref a :: st) h := e_go dX0_init_23 rfl rfl
theorem wX0_init_24 : E_ d mX0_init 24 ls st h = E_ d mX0_init 26 ls (.int (nI 6) :: st) h := e_bipush dX0_init_24 kbipush_6 rfl
theorem wX0_init_26 (h0 : 0 ≤ x.toInt) (h1 : x.toInt ≤ 65536) : E_ d mX0_init 26 ls (.int x :: st) h = E_ d mX0_init 28 ls (.ref (oX h) :: st) (pO h 40 x.toNatClampNeg) := e_newa dX0_init_26 rfl rfl h0 h1
theorem wX0_init_28 (ht : oT h a = 1) : E_ d mX0_init 28 ls (.ref b :: .ref a :: st) h = E_ d mX0_init 31 ls st (pR h a (va_up (oR h a) 2 (some b))) := e_putR0 dX0_init_28 rfl rfl rfl ht
theorem wX0_init_28q (ht : oT h a = 1) : E_ d mX0_init 28 ls (va_rf q :: .ref a :: st) h = E_ d mX0_init 31 ls st (pR h a (va_up (oR h a) 2 q)) := e_putR0q dX0_init_28 rfl rfl rfl ht
theorem wX0_init_31 : E_ d mX0_init 31 [.val (.ref a)] st h = E_ d mX0_init 32 [.val (.ref a)] (.ref a :: st) h := e_go dX0_init_31 rfl rfl
theorem wX0_init_32 : E_ d mX0_init 32 ls st h = E_ d mX0_init 35 ls (.int (nI 400) :: st) h := e_sipush dX0_init_32 ksipush_400 rfl
theorem wX0_init_35 (h0 : 0 ≤ x.toInt) (h1 : x.toInt ≤ 65536) : E_ d mX0_init 35 ls (.int x :: st) h = E_ d mX0_init 37 ls (.ref (oX h) :: st) (pO h 41 x.toNatClampNeg) := e_newa dX0_init_35 rfl rfl h0 h1
theorem wX0_init_37 (ht : oT h a = 1) : E_ d mX0_init 37 ls (.ref b :: .ref a :: st) h = E_ d mX0_init 40 ls st (pR h a (va_up (oR h a) 3 (some b))) := e_putR0 dX0_init_37 rfl rfl rfl ht
theorem wX0_init_37q (ht : oT h a = 1) : E_ d mX0_init 37 ls (va_rf q :: .ref a :: st) h = E_ d mX0_init 40 ls st (pR h a (va_up (oR h a) 3 q)) := e_putR0q dX0_init_37 rfl rfl rfl ht
theorem wX0_init_40 : E_ d mX0_init 40 [.val (.ref a)] st h = E_ d mX0_init 41 [.val (.ref a)] (.ref a :: st) h := e_go dX0_init_40 rfl rfl
theorem wX0_init_41 : E_ d mX0_init 41 ls st h = E_ d mX0_init 42 ls (.int ((-1)) :: st) h := e_iconst dX0_init_41 kiconst_m1 rfl
theorem wX0_init_42 (ht : oT h a = 1) : E_ d mX0_init 42 ls (.int x :: .ref a :: st) h = E_ d mX0_init 45 ls st (pI h a (va_up (oI h a) 6 x)) := e_putI dX0_init_42 rfl rfl ht
theorem wX0_init_45 : E_ d mX0_init 45 [.val (.ref a)] st h = E_ d mX0_init 46 [.val (.ref a)] (.ref a :: st) h := e_go dX0_init_45 rfl rfl
theorem wX0_init_46 : E_ d mX0_init 46 ls st h = E_ d mX0_init 49 ls (.ref (oX h) :: st) (pO h 5 13) := e_go dX0_init_46 rfl rfl
theorem wX0_init_49 : E_ d mX0_init 49 ls (.ref a :: st) h = E_ d mX0_init 50 ls (.ref a :: .ref a :: st) h := e_go dX0_init_49 rfl rfl
theorem wX0_init_50 : E_ (d + 1) mX0_init 50 ls [.ref a, .ref r1, .ref r2] h = (C_ d mX3_init [.ref a] h).bind fun r => E_ (d + 1) mX0_init 53 ls (xpu r.1 [.ref r1, .ref r2]) r.2 := e_call dX0_init_50 rfl rfl
theorem wX0_init_53 (ht : oT h a = 1) : E_ d mX0_init 53 ls (.ref b :: .ref a :: st) h = E_ d mX0_init 56 ls st (pR h a (va_up (oR h a) 7 (some b))) := e_putR0 dX0_init_53 rfl rfl rfl ht
theorem wX0_init_53q (ht : oT h a = 1) : E_ d mX0_init 53 ls (va_rf q :: .ref a :: st) h = E_ d mX0_init 56 ls st (pR h a (va_up (oR h a) 7 q)) := e_putR0q dX0_init_53 rfl rfl rfl ht
theorem wX0_init_56 : E_ d mX0_init 56 [.val (.ref a)] st h = E_ d mX0_init 57 [.val (.ref a)] (.ref a :: st) h := e_go dX0_init_56 rfl rfl
theorem wX0_init_57 : E_ (d + 1) mX0_init 57 ls [.ref r1] h = (C_ d mX0_walks [] h).bind fun r => E_ (d + 1) mX0_init 60 ls (xpu r.1 [.ref r1]) r.2 := e_call dX0_init_57 rfl rfl
theorem wX0_init_60 (ht : oT h a = 1) : E_ d mX0_init 60 ls (.ref b :: .ref a :: st) h = E_ d mX0_init 63 ls st (pR h a (va_up (oR h a) 9 (some b))) := e_putR0 dX0_init_60 rfl rfl rfl ht
theorem wX0_init_60q (ht : oT h a = 1) : E_ d mX0_init 60 ls (va_rf q :: .ref a :: st) h = E_ d mX0_init 63 ls st (pR h a (va_up (oR h a) 9 q)) := e_putR0q dX0_init_60 rfl rfl rfl ht
theorem wX0_init_63 : E_ d mX0_init 63 [.val (.ref a)] st h = E_ d mX0_init 64 [.val (.ref a)] (.ref a :: st) h := e_go dX0_init_63 rfl rfl
theorem wX0_init_64 : E_ d mX0_init 64 ls st h = E_ d mX0_init 66 ls (.int (nI 6) :: st) h := e_bipush dX0_init_64 kbipush_6 rfl
theorem wX0_init_66 (h0 : 0 ≤ x.toInt) (h1 : x.toInt ≤ 65536) : E_ d mX0_init 66 ls (.int x :: st) h = E_ d mX0_init 68 ls (.ref (oX h) :: st) (pO h 44 x.toNatClampNeg) := e_newa dX0_init_66 rfl rfl h0 h1
theorem wX0_init_68 (ht : oT h a = 1) : E_ d mX0_init 68 ls (.ref b :: .ref a :: st) h = E_ d mX0_init 71 ls st (pR h a (va_up (oR h a) 10 (some b))) := e_putR0 dX0_init_68 rfl rfl rfl ht
theorem wX0_init_68q (ht : oT h a = 1) : E_ d mX0_init 68 ls (va_rf q :: .ref a :: st) h = E_ d mX0_init 71 ls st (pR h a (va_up (oR h a) 10 q)) := e_putR0q dX0_init_68 rfl rfl rfl ht
theorem wX0_init_71 : E_ d mX0_init 71 [.val (.ref a)] st h = E_ d mX0_init 72 [.val (.ref a)] (.ref a :: st) h := e_go dX0_init_71 rfl rfl
theorem wX0_init_72 : E_ d mX0_init 72 ls st h = E_ d mX0_init 74 ls (.int (nI 8) :: st) h := e_bipush dX0_init_72 kbipush_8 rfl
theorem wX0_init_74 (h0 : 0 ≤ x.toInt) (h1 : x.toInt ≤ 65536) : E_ d mX0_init 74 ls (.int x :: st) h = E_ d mX0_init 76 ls (.ref (oX h) :: st) (pO h 44 x.toNatClampNeg) := e_newa dX0_init_74 rfl rfl h0 h1
theorem wX0_init_76 (ht : oT h a = 1) : E_ d mX0_init 76 ls (.ref b :: .ref a :: st) h = E_ d mX0_init 79 ls st (pR h a (va_up (oR h a) 11 (some b))) := e_putR0 dX0_init_76 rfl rfl rfl ht
theorem wX0_init_76q (ht : oT h a = 1) : E_ d mX0_init 76 ls (va_rf q :: .ref a :: st) h = E_ d mX0_init 79 ls st (pR h a (va_up (oR h a) 11 q)) := e_putR0q dX0_init_76 rfl rfl rfl ht
theorem wX0_init_79 : E_ d mX0_init 79 [.val (.ref a)] st h = E_ d mX0_init 80 [.val (.ref a)] (.ref a :: st) h := e_go dX0_init_79 rfl rfl
theorem wX0_init_80 : E_ d mX0_init 80 ls st h = E_ d mX0_init 82 ls (.int (nI 8) :: st) h := e_bipush dX0_init_80 kbipush_8 rfl
theorem wX0_init_82 (h0 : 0 ≤ x.toInt) (h1 : x.toInt ≤ 65536) : E_ d mX0_init 82 ls (.int x :: st) h = E_ d mX0_init 84 ls (.ref (oX h) :: st) (pO h 44 x.toNatClampNeg) := e_newa dX0_init_82 rfl rfl h0 h1
theorem wX0_init_84 (ht : oT h a = 1) : E_ d mX0_init 84 ls (.ref b :: .ref a :: st) h = E_ d mX0_init 87 ls st (pR h a (va_up (oR h a) 12 (some b))) := e_putR0 dX0_init_84 rfl rfl rfl ht
theorem wX0_init_84q (ht : oT h a = 1) : E_ d mX0_init 84 ls (va_rf q :: .ref a :: st) h = E_ d mX0_init 87 ls st (pR h a (va_up (oR h a) 12 q)) := e_putR0q dX0_init_84 rfl rfl rfl ht
theorem wX0_init_87 : E_ d mX0_init 87 [.val (.ref a)] st h = E_ d mX0_init 88 [.val (.ref a)] (.ref a :: st) h := e_go dX0_init_87 rfl rfl
theorem wX0_init_88 : E_ d mX0_init 88 ls st h = E_ d mX0_init 91 ls (.int (nI 13000) :: st) h := e_sipush dX0_init_88 ksipush_13000 rfl
theorem wX0_init_91 (h0 : 0 ≤ x.toInt) (h1 : x.toInt ≤ 65536) : E_ d mX0_init 91 ls (.int x :: st) h = E_ d mX0_init 93 ls (.ref (oX h) :: st) (pO h 44 x.toNatClampNeg) := e_newa dX0_init_91 rfl rfl h0 h1
theorem wX0_init_93 (ht : oT h a = 1) : E_ d mX0_init 93 ls (.ref b :: .ref a :: st) h = E_ d mX0_init 96 ls st (pR h a (va_up (oR h a) 13 (some b))) := e_putR0 dX0_init_93 rfl rfl rfl ht
theorem wX0_init_93q (ht : oT h a = 1) : E_ d mX0_init 93 ls (va_rf q :: .ref a :: st) h = E_ d mX0_init 96 ls st (pR h a (va_up (oR h a) 13 q)) := e_putR0q dX0_init_93 rfl rfl rfl ht
theorem wX0_init_96 : E_ d mX0_init 96 [.val (.ref a)] st h = E_ d mX0_init 97 [.val (.ref a)] (.ref a :: st) h := e_go dX0_init_96 rfl rfl
theorem wX0_init_97 : E_ d mX0_init 97 ls st h = E_ d mX0_init 99 ls (.int (nI 40) :: st) h := e_bipush dX0_init_97 kbipush_40 rfl
theorem wX0_init_99 (h0 : 0 ≤ x.toInt) (h1 : x.toInt ≤ 65536) : E_ d mX0_init 99 ls (.int x :: st) h = E_ d mX0_init 101 ls (.ref (oX h) :: st) (pO h 40 x.toNatClampNeg) := e_newa dX0_init_99 rfl rfl h0 h1
theorem wX0_init_101 (ht : oT h a = 1) : E_ d mX0_init 101 ls (.ref b :: .ref a :: st) h = E_ d mX0_init 104 ls st (pR h a (va_up (oR h a) 14 (some b))) := e_putR0 dX0_init_101 rfl rfl rfl ht
theorem wX0_init_101q (ht : oT h a = 1) : E_ d mX0_init 101 ls (va_rf q :: .ref a :: st) h = E_ d mX0_init 104 ls st (pR h a (va_up (oR h a) 14 q)) := e_putR0q dX0_init_101 rfl rfl rfl ht
theorem wX0_init_104 : E_ d mX0_init 104 [.val (.ref a)] st h = E_ d mX0_init 105 [.val (.ref a)] (.ref a :: st) h := e_go dX0_init_104 rfl rfl
theorem wX0_init_105 : E_ d mX0_init 105 ls st h = E_ d mX0_init 106 ls (.int (nI 4) :: st) h := e_iconst dX0_init_105 kiconst_4 rfl
theorem wX0_init_106 (h0 : 0 ≤ x.toInt) (h1 : x.toInt ≤ 65536) : E_ d mX0_init 106 ls (.int x :: st) h = E_ d mX0_init 109 ls (.ref (oX h) :: st) (pO h 47 x.toNatClampNeg) := e_newq dX0_init_106 rfl rfl h0 h1
theorem wX0_init_109 : E_ d mX0_init 109 ls (.ref a :: st) h = E_ d mX0_init 110 ls (.ref a :: .ref a :: st) h := e_go dX0_init_109 rfl rfl
theorem wX0_init_110 : E_ d mX0_init 110 ls st h = E_ d mX0_init 111 ls (.int (nI 0) :: st) h := e_iconst dX0_init_110 kiconst_0 rfl
theorem wX0_init_111 : E_ d mX0_init 111 ls st h = E_ d mX0_init 114 ls (.ref (oX h) :: st) (pO h 6 1) := e_go dX0_init_111 rfl rfl
theorem wX0_init_114 : E_ d mX0_init 114 ls (.ref a :: st) h = E_ d mX0_init 115 ls (.ref a :: .ref a :: st) h := e_go dX0_init_114 rfl rfl
theorem wX0_init_115 : E_ (d + 1) mX0_init 115 ls [.ref a, .ref r1, .int x1, .ref r2, .ref r3, .ref r4] h = (C_ d mX4_init [.ref a] h).bind fun r => E_ (d + 1) mX0_init 118 ls (xpu r.1 [.ref r1, .int x1, .ref r2, .ref r3, .ref r4]) r.2 := e_call dX0_init_115 rfl rfl
theorem wX0_init_118 (ht : xel (oT h a) (oT h b) = true) (hi : xix x (oN h a) = true) : E_ d mX0_init 118 ls (.ref b :: .int x :: .ref a :: st) h = E_ d mX0_init 119 ls st (pR h a (va_up (oR h a) x.toNatClampNeg (some b))) := e_aast dX0_init_118 rfl ht hi
theorem wX0_init_118n (ht : 45 ≤ oT h a ∧ oT h a ≤ 48) (hi : xix x (oN h a) = true) : E_ d mX0_init 118 ls (.null :: .int x :: .ref a :: st) h = E_ d mX0_init 119 ls st (pR h a (va_up (oR h a) x.toNatClampNeg none)) := e_aastN dX0_init_118 rfl ht hi
theorem wX0_init_119 : E_ d mX0_init 119 ls (.ref a :: st) h = E_ d mX0_init 120 ls (.ref a :: .ref a :: st) h := e_go dX0_init_119 rfl rfl
theorem wX0_init_120 : E_ d mX0_init 120 ls st h = E_ d mX0_init 121 ls (.int (nI 1) :: st) h := e_iconst dX0_init_120 kiconst_1 rfl
theorem wX0_init_121 : E_ d mX0_init 121 ls st h = E_ d mX0_init 124 ls (.ref (oX h) :: st) (pO h 6 1) := e_go dX0_init_121 rfl rfl
theorem wX0_init_124 : E_ d mX0_init 124 ls (.ref a :: st) h = E_ d mX0_init 125 ls (.ref a :: .ref a :: st) h := e_go dX0_init_124 rfl rfl
theorem wX0_init_125 : E_ (d + 1) mX0_init 125 ls [.ref a, .ref r1, .int x1, .ref r2, .ref r3, .ref r4] h = (C_ d mX4_init [.ref a] h).bind fun r => E_ (d + 1) mX0_init 128 ls (xpu r.1 [.ref r1, .int x1, .ref r2, .ref r3, .ref r4]) r.2 := e_call dX0_init_125 rfl rfl
theorem wX0_init_128 (ht : xel (oT h a) (oT h b) = true) (hi : xix x (oN h a) = true) : E_ d mX0_init 128 ls (.ref b :: .int x :: .ref a :: st) h = E_ d mX0_init 129 ls st (pR h a (va_up (oR h a) x.toNatClampNeg (some b))) := e_aast dX0_init_128 rfl ht hi
theorem wX0_init_128n (ht : 45 ≤ oT h a ∧ oT h a ≤ 48) (hi : xix x (oN h a) = true) : E_ d mX0_init 128 ls (.null :: .int x :: .ref a :: st) h = E_ d mX0_init 129 ls st (pR h a (va_up (oR h a) x.toNatClampNeg none)) := e_aastN dX0_init_128 rfl ht hi
theorem wX0_init_129 : E_ d mX0_init 129 ls (.ref a :: st) h = E_ d mX0_init 130 ls (.ref a :: .ref a :: st) h := e_go dX0_init_129 rfl rfl
theorem wX0_init_130 : E_ d mX0_init 130 ls st h = E_ d mX0_init 131 ls (.int (nI 2) :: st) h := e_iconst dX0_init_130 kiconst_2 rfl
theorem wX0_init_131 : E_ d mX0_init 131 ls st h = E_ d mX0_init 134 ls (.ref (oX h) :: st) (pO h 6 1) := e_go dX0_init_131 rfl rfl
theorem wX0_init_134 : E_ d mX0_init 134 ls (.ref a :: st) h = E_ d mX0_init 135 ls (.ref a :: .ref a :: st) h := e_go dX0_init_134 rfl rfl
theorem wX0_init_135 : E_ (d + 1) mX0_init 135 ls [.ref a, .ref r1, .int x1, .ref r2, .ref r3, .ref r4] h = (C_ d mX4_init [.ref a] h).bind fun r => E_ (d + 1) mX0_init 138 ls (xpu r.1 [.ref r1, .int x1, .ref r2, .ref r3, .ref r4]) r.2 := e_call dX0_init_135 rfl rfl
theorem wX0_init_138 (ht : xel (oT h a) (oT h b) = true) (hi : xix x (oN h a) = true) : E_ d mX0_init 138 ls (.ref b :: .int x :: .ref a :: st) h = E_ d mX0_init 139 ls st (pR h a (va_up (oR h a) x.toNatClampNeg (some b))) := e_aast dX0_init_138 rfl ht hi
theorem wX0_init_138n (ht : 45 ≤ oT h a ∧ oT h a ≤ 48) (hi : xix x (oN h a) = true) : E_ d mX0_init 138 ls (.null :: .int x :: .ref a :: st) h = E_ d mX0_init 139 ls st (pR h a (va_up (oR h a) x.toNatClampNeg none)) := e_aastN dX0_init_138 rfl ht hi
theorem wX0_init_139 : E_ d mX0_init 139 ls (.ref a :: st) h = E_ d mX0_init 140 ls (.ref a :: .ref a :: st) h := e_go dX0_init_139 rfl rfl
theorem wX0_init_140 : E_ d mX0_init 140 ls st h = E_ d mX0_init 141 ls (.int (nI 3) :: st) h := e_iconst dX0_init_140 kiconst_3 rfl
theorem wX0_init_141 : E_ d mX0_init 141 ls st h = E_ d mX0_init 144 ls (.ref (oX h) :: st) (pO h 6 1) := e_go dX0_init_141 rfl rfl
theorem wX0_init_144 : E_ d mX0_init 144 ls (.ref a :: st) h = E_ d mX0_init 145 ls (.ref a :: .ref a :: st) h := e_go dX0_init_144 rfl rfl
theorem wX0_init_145 : E_ (d + 1) mX0_init 145 ls [.ref a, .ref r1, .int x1, .ref r2, .ref r3, .ref r4] h = (C_ d mX4_init [.ref a] h).bind fun r => E_ (d + 1) mX0_init 148 ls (xpu r.1 [.ref r1, .int x1, .ref r2, .ref r3, .ref r4]) r.2 := e_call dX0_init_145 rfl rfl
theorem wX0_init_148 (ht : xel (oT h a) (oT h b) = true) (hi : xix x (oN h a) = true) : E_ d mX0_init 148 ls (.ref b :: .int x :: .ref a :: st) h = E_ d mX0_init 149 ls st (pR h a (va_up (oR h a) x.toNatClampNeg (some b))) := e_aast dX0_init_148 rfl ht hi
theorem wX0_init_148n (ht : 45 ≤ oT h a ∧ oT h a ≤ 48) (hi : xix x (oN h a) = true) : E_ d mX0_init 148 ls (.null :: .int x :: .ref a :: st) h = E_ d mX0_init 149 ls st (pR h a (va_up (oR h a) x.toNatClampNeg none)) := e_aastN dX0_init_148 rfl ht hi
theorem wX0_init_149 (ht : oT h a = 1) : E_ d mX0_init 149 ls (.ref b :: .ref a :: st) h = E_ d mX0_init 152 ls st (pR h a (va_up (oR h a) 17 (some b))) := e_putR0 dX0_init_149 rfl rfl rfl ht
theorem wX0_init_149q (ht : oT h a = 1) : E_ d mX0_init 149 ls (va_rf q :: .ref a :: st) h = E_ d mX0_init 152 ls st (pR h a (va_up (oR h a) 17 q)) := e_putR0q dX0_init_149 rfl rfl rfl ht
theorem wX0_init_152 : E_ d mX0_init 152 ls [] h = some (none, h) := e_rt dX0_init_152 rfl rfl
/-! FootOut.walks -/
theorem wX0_walks_0 : E_ d mX0_walks 0 ls st h = E_ d mX0_walks 2 ls (.int (nI 9) :: st) h := e_bipush dX0_walks_0 kbipush_9 rfl
theorem wX0_walks_2 (h0 : 0 ≤ x.toInt) (h1 : x.toInt ≤ 65536) : E_ d mX0_walks 2 ls (.int x :: st) h = E_ d mX0_walks 5 ls (.ref (oX h) :: st) (pO h 46 x.toNatClampNeg) := e_newq dX0_walks_2 rfl rfl h0 h1
theorem wX0_walks_5 : E_ d mX0_walks 5 [s0, s1] (.ref a :: st) h = E_ d mX0_walks 6 [.val (.ref a), s1] st h := e_go dX0_walks_5 rfl rfl
theorem wX0_walks_6 : E_ d mX0_walks 6 ls st h = E_ d mX0_walks 7 ls (.int (nI 0) :: st) h := e_iconst dX0_walks_6 kiconst_0 rfl
theorem wX0_walks_7 : E_ d mX0_walks 7 [s0, s1] (.int x :: st) h = E_ d mX0_walks 8 [xk s0, .val (.int x)] st h := e_go dX0_walks_7 rfl rfl
theorem wX0_walks_8 : E_ d mX0_walks 8 [s0, .val (.int x)] st h = E_ d mX0_walks 9 [s0, .val (.int x)] (.int x :: st) h := e_go dX0_walks_8 rfl rfl
theorem wX0_walks_9 : E_ d mX0_walks 9 ls st h = E_ d mX0_walks 11 ls (.int (nI 8) :: st) h := e_bipush dX0_walks_9 kbipush_8 rfl
theorem wX0_walks_11 : E_ d mX0_walks 11 ls (.int y :: .int x :: st) h = if y < x then E_ d mX0_walks 30 ls st h else E_ d mX0_walks 14 ls st h := e_igt dX0_walks_11 rfl rfl
theorem wX0_walks_14 : E_ d mX0_walks 14 [.val (.ref a), s1] st h = E_ d mX0_walks 15 [.val (.ref a), s1] (.ref a :: st) h := e_go dX0_walks_14 rfl rfl
theorem wX0_walks_15 : E_ d mX0_walks 15 [s0, .val (.int x)] st h = E_ d mX0_walks 16 [s0, .val (.int x)] (.int x :: st) h := e_go dX0_walks_15 rfl rfl
theorem wX0_walks_16 : E_ d mX0_walks 16 ls st h = E_ d mX0_walks 19 ls (.ref (oX h) :: st) (pO h 5 13) := e_go dX0_walks_16 rfl rfl
theorem wX0_walks_19 : E_ d mX0_walks 19 ls (.ref a :: st) h = E_ d mX0_walks 20 ls (.ref a :: .ref a :: st) h := e_go dX0_walks_19 rfl rfl
theorem wX0_walks_20 : E_ (d + 1) mX0_walks 20 ls [.ref a, .ref r1, .int x1, .ref r2] h = (C_ d mX3_init [.ref a] h).bind fun r => E_ (d + 1) mX0_walks 23 ls (xpu r.1 [.ref r1, .int x1, .ref r2]) r.2 := e_call dX0_walks_20 rfl rfl
theorem wX0_walks_23 (ht : xel (oT h a) (oT h b) = true) (hi : xix x (oN h a) = true) : E_ d mX0_walks 23 ls (.ref b :: .int x :: .ref a :: st) h = E_ d mX0_walks 24 ls st (pR h a (va_up (oR h a) x.toNatClampNeg (some b))) := e_aast dX0_walks_23 rfl ht hi
theorem wX0_walks_23n (ht : 45 ≤ oT h a ∧ oT h a ≤ 48) (hi : xix x (oN h a) = true) : E_ d mX0_walks 23 ls (.null :: .int x :: .ref a :: st) h = E_ d mX0_walks 24 ls st (pR h a (va_up (oR h a) x.toNatClampNeg none)) := e_aastN dX0_walks_23 rfl ht hi
theorem wX0_walks_24 : E_ d mX0_walks 24 [s0, .val (.int x)] st h = E_ d mX0_walks 27 [xk s0, .val (.int (x + nI 1))] st h := by rw [← kiinc_1]; exact e_go dX0_walks_24 rfl rfl
theorem wX0_walks_27 : E_ d mX0_walks 27 ls st h = E_ d mX0_walks 8 ls st h := e_gt dX0_walks_27 rfl
theorem wX0_walks_30 : E_ d mX0_walks 30 [.val (.ref a), s1] st h = E_ d mX0_walks 31 [.val (.ref a), s1] (.ref a :: st) h := e_go dX0_walks_30 rfl rfl
theorem wX0_walks_31 : E_ d mX0_walks 31 ls [.ref a] h = some (some (.ref a), h) := e_rt dX0_walks_31 rfl rfl
/-! FootOut.feed -/
theorem wX0_feed_0 : E_ d mX0_feed 0 [.val (.ref a), s1, s2, s3, s4, s5] st h = E_ d mX0_feed 1 [.val (.ref a), s1, s2, s3, s4, s5] (.ref a :: st) h := e_go dX0_feed_0 rfl rfl
theorem wX0_feed_1 (ht : oT h a = 1) : E_ d mX0_feed 1 ls (.ref a :: st) h = E_ d mX0_feed 4 ls (.int (oI h a 4) :: st) h := e_getI dX0_feed_1 rfl rfl ht
theorem wX0_feed_4 : E_ d mX0_feed 4 ls st h = E_ d mX0_feed 6 ls (.int (nI 20) :: st) h := e_bipush dX0_feed_4 kbipush_20 rfl
theorem wX0_feed_6 : E_ d mX0_feed 6 ls (.int y :: .int x :: st) h = E_ d mX0_feed 7 ls (.int (x + y) :: st) h := e_go dX0_feed_6 rfl rfl
theorem wX0_feed_7 : E_ d mX0_feed 7 ls st h = E_ d mX0_feed 10 ls (.int (nI 400) :: st) h := e_sipush dX0_feed_7 ksipush_400 rfl
theorem wX0_feed_10 : E_ d mX0_feed 10 ls (.int y :: .int x :: st) h = if y < x then E_ d mX0_feed 13 ls st h else E_ d mX0_feed 20 ls st h := e_ile dX0_feed_10 rfl rfl
theorem wX0_feed_13 : E_ d mX0_feed 13 [.val (.ref a), s1, s2, s3, s4, s5] st h = E_ d mX0_feed 14 [.val (.ref a), s1, s2, s3, s4, s5] (.ref a :: st) h := e_go dX0_feed_13 rfl rfl
theorem wX0_feed_14 : E_ d mX0_feed 14 ls st h = E_ d mX0_feed 16 ls (.int ((-5)) :: st) h := e_bipush dX0_feed_14 kbipush_m5 rfl
theorem wX0_feed_16 (ht : oT h a = 1) : E_ (d + 1) mX0_feed 16 ls [.int x1, .ref a] h = (C_ d mX0_no [.ref a, .int x1] h).bind fun r => E_ (d + 1) mX0_feed 19 ls (xpu r.1 []) r.2 := e_vir dX0_feed_16 rfl rfl rfl rfl rfl rfl (Nat.le_of_ble_eq_true rfl) (Nat.le_of_ble_eq_true rfl) ht
theorem wX0_feed_19 : E_ d mX0_feed 19 ls [.int x] h = some (some (.int x), h) := e_rt dX0_feed_19 rfl rfl
theorem wX0_feed_20 : E_ d mX0_feed 20 [.val (.ref a), s1, s2, s3, s4, s5] st h = E_ d mX0_feed 21 [.val (.ref a), s1, s2, s3, s4, s5] (.ref a :: st) h := e_go dX0_feed_20 rfl rfl
theorem wX0_feed_21 : E_ d mX0_feed 21 [s0, .val (.int x), s2, s3, s4, s5] st h = E_ d mX0_feed 22 [s0, .val (.int x), s2, s3, s4, s5] (.int x :: st) h := e_go dX0_feed_21 rfl rfl
theorem wX0_feed_22 (ht : oT h a = 1) : E_ (d + 1) mX0_feed 22 ls [.int x1, .ref a] h = (C_ d mX0_bytes [.ref a, .int x1] h).bind fun r => E_ (d + 1) mX0_feed 25 ls (xpu r.1 []) r.2 := e_vir dX0_feed_22 rfl rfl rfl rfl rfl rfl (Nat.le_of_ble_eq_true rfl) (Nat.le_of_ble_eq_true rfl) ht
theorem wX0_feed_25 : E_ d mX0_feed 25 [.val (.ref a), s1, s2, s3, s4, s5] st h = E_ d mX0_feed 26 [.val (.ref a), s1, s2, s3, s4, s5] (.ref a :: st) h := e_go dX0_feed_25 rfl rfl
theorem wX0_feed_26 : E_ d mX0_feed 26 [s0, s1, .val (.int x), s3, s4, s5] st h = E_ d mX0_feed 27 [s0, s1, .val (.int x), s3, s4, s5] (.int x :: st) h := e_go dX0_feed_26 rfl rfl
theorem wX0_feed_27 (ht : oT h a = 1) : E_ (d + 1) mX0_feed 27 ls [.int x1, .ref a] h = (C_ d mX0_bytes [.ref a, .int x1] h).bind fun r => E_ (d + 1) mX0_feed 30 ls (xpu r.1 []) r.2 := e_vir dX0_feed_27 rfl rfl rfl rfl rfl rfl (Nat.le_of_ble_eq_true rfl) (Nat.le_of_ble_eq_true rfl) ht
theorem wX0_feed_30 : E_ d mX0_feed 30 [.val (.ref a), s1, s2, s3, s4, s5] st h = E_ d mX0_feed 31 [.val (.ref a), s1, s2, s3, s4, s5] (.ref a :: st) h := e_go dX0_feed_30 rfl rfl
theorem wX0_feed_31 : E_ d mX0_feed 31 [s0, s1, s2, .val (.int x), s4, s5] st h = E_ d mX0_feed 32 [s0, s1, s2, .val (.int x), s4, s5] (.int x :: st) h := e_go dX0_feed_31 rfl rfl
theorem wX0_feed_32 (ht : oT h a = 1) : E_ (d + 1) mX0_feed 32 ls [.int x1, .ref a] h = (C_ d mX0_bytes [.ref a, .int x1] h).bind fun r => E_ (d + 1) mX0_feed 35 ls (xpu r.1 []) r.2 := e_vir dX0_feed_32 rfl rfl rfl rfl rfl rfl (Nat.le_of_ble_eq_true rfl) (Nat.le_of_ble_eq_true rfl) ht
theorem wX0_feed_35 : E_ d mX0_feed 35 [.val (.ref a), s1, s2, s3, s4, s5] st h = E_ d mX0_feed 36 [.val (.ref a), s1, s2, s3, s4, s5] (.ref a :: st) h := e_go dX0_feed_35 rfl rfl
theorem wX0_feed_36 : E_ d mX0_feed 36 [s0, s1, s2, s3, .val (.int x), s5] st h = E_ d mX0_feed 38 [s0, s1, s2, s3, .val (.int x), s5] (.int x :: st) h := e_go dX0_feed_36 rfl rfl
theorem wX0_feed_38 (ht : oT h a = 1) : E_ (d + 1) mX0_feed 38 ls [.int x1, .ref a] h = (C_ d mX0_bytes [.ref a, .int x1] h).bind fun r => E_ (d + 1) mX0_feed 41 ls (xpu r.1 []) r.2 := e_vir dX0_feed_38 rfl rfl rfl rfl rfl rfl (Nat.le_of_ble_eq_true rfl) (Nat.le_of_ble_eq_true rfl) ht
theorem wX0_feed_41 : E_ d mX0_feed 41 [.val (.ref a), s1, s2, s3, s4, s5] st h = E_ d mX0_feed 42 [.val (.ref a), s1, s2, s3, s4, s5] (.ref a :: st) h := e_go dX0_feed_41 rfl rfl
theorem wX0_feed_42 : E_ d mX0_feed 42 [s0, s1, s2, s3, s4, .val (.int x)] st h = E_ d mX0_feed 44 [s0, s1, s2, s3, s4, .val (.int x)] (.int x :: st) h := e_go dX0_feed_42 rfl rfl
theorem wX0_feed_44 (ht : oT h a = 1) : E_ (d + 1) mX0_feed 44 ls [.int x1, .ref a] h = (C_ d mX0_bytes [.ref a, .int x1] h).bind fun r => E_ (d + 1) mX0_feed 47 ls (xpu r.1 []) r.2 := e_vir dX0_feed_44 rfl rfl rfl rfl rfl rfl (Nat.le_of_ble_eq_true rfl) (Nat.le_of_ble_eq_true rfl) ht
theorem wX0_feed_47 : E_ d mX0_feed 47 [.val (.ref a), s1, s2, s3, s4, s5] st h = E_ d mX0_feed 48 [.val (.ref a), s1, s2, s3, s4, s5] (.ref a :: st) h := e_go dX0_feed_47 rfl rfl
theorem wX0_feed_48 (ht : oT h a = 1) : E_ d mX0_feed 48 ls (.ref a :: st) h = E_ d mX0_feed 51 ls (.int (oI h a 4) :: st) h := e_getI dX0_feed_48 rfl rfl ht
theorem wX0_feed_51 : E_ d mX0_feed 51 ls [.int x] h = some (some (.int x), h) := e_rt dX0_feed_51 rfl rfl
/-! FootOut.no -/
theorem wX0_no_0 : E_ d mX0_no 0 [.val (.ref a), s1] st h = E_ d mX0_no 1 [.val (.ref a), s1] (.ref a :: st) h := e_go dX0_no_0 rfl rfl
theorem wX0_no_1 (ht : oT h a = 1) : E_ d mX0_no 1 ls (.ref a :: st) h = E_ d mX0_no 4 ls (va_rf (oR h a 2) :: st) h := e_getR0 dX0_no_1 rfl rfl ht
theorem wX0_no_4 : E_ d mX0_no 4 [s0, .val (.int x)] st h = E_ d mX0_no 5 [s0, .val (.int x)] (.int x :: st) h := e_go dX0_no_4 rfl rfl
theorem wX0_no_5 : E_ d mX0_no 5 ls st h = E_ d mX0_no 7 ls (.int ((-3)) :: st) h := e_bipush dX0_no_5 kbipush_m3 rfl
theorem wX0_no_7 : E_ d mX0_no 7 ls (.int y :: .int x :: st) h = if x = y then E_ d mX0_no 10 ls st h else E_ d mX0_no 14 ls st h := e_ine dX0_no_7 rfl rfl
theorem wX0_no_10 : E_ d mX0_no 10 ls st h = E_ d mX0_no 11 ls (.int (nI 1) :: st) h := e_iconst dX0_no_10 kiconst_1 rfl
theorem wX0_no_11 : E_ d mX0_no 11 ls st h = E_ d mX0_no 61 ls st h := e_gt dX0_no_11 rfl
theorem wX0_no_14 : E_ d mX0_no 14 [s0, .val (.int x)] st h = E_ d mX0_no 15 [s0, .val (.int x)] (.int x :: st) h := e_go dX0_no_14 rfl rfl
theorem wX0_no_15 : E_ d mX0_no 15 ls st h = E_ d mX0_no 17 ls (.int ((-5)) :: st) h := e_bipush dX0_no_15 kbipush_m5 rfl
theorem wX0_no_17 : E_ d mX0_no 17 ls (.int y :: .int x :: st) h = if x = y then E_ d mX0_no 20 ls st h else E_ d mX0_no 24 ls st h := e_ine dX0_no_17 rfl rfl
theorem wX0_no_20 : E_ d mX0_no 20 ls st h = E_ d mX0_no 21 ls (.int (nI 2) :: st) h := e_iconst dX0_no_20 kiconst_2 rfl
theorem wX0_no_21 : E_ d mX0_no 21 ls st h = E_ d mX0_no 61 ls st h := e_gt dX0_no_21 rfl
theorem wX0_no_24 : E_ d mX0_no 24 [s0, .val (.int x)] st h = E_ d mX0_no 25 [s0, .val (.int x)] (.int x :: st) h := e_go dX0_no_24 rfl rfl
theorem wX0_no_25 : E_ d mX0_no 25 ls st h = E_ d mX0_no 27 ls (.int ((-6)) :: st) h := e_bipush dX0_no_25 kbipush_m6 rfl
theorem wX0_no_27 : E_ d mX0_no 27 ls (.int y :: .int x :: st) h = if x = y then E_ d mX0_no 30 ls st h else E_ d mX0_no 34 ls st h := e_ine dX0_no_27 rfl rfl
theorem wX0_no_30 : E_ d mX0_no 30 ls st h = E_ d mX0_no 31 ls (.int (nI 3) :: st) h := e_iconst dX0_no_30 kiconst_3 rfl
theorem wX0_no_31 : E_ d mX0_no 31 ls st h = E_ d mX0_no 61 ls st h := e_gt dX0_no_31 rfl
theorem wX0_no_34 : E_ d mX0_no 34 [s0, .val (.int x)] st h = E_ d mX0_no 35 [s0, .val (.int x)] (.int x :: st) h := e_go dX0_no_34 rfl rfl
theorem wX0_no_35 : E_ d mX0_no 35 ls st h = E_ d mX0_no 37 ls (.int ((-7)) :: st) h := e_bipush dX0_no_35 kbipush_m7 rfl
theorem wX0_no_37 : E_ d mX0_no 37 ls (.int y :: .int x :: st) h = if x = y then E_ d mX0_no 40 ls st h else E_ d mX0_no 44 ls st h := e_ine dX0_no_37 rfl rfl
theorem wX0_no_40 : E_ d mX0_no 40 ls st h = E_ d mX0_no 41 ls (.int (nI 4) :: st) h := e_iconst dX0_no_40 kiconst_4 rfl
theorem wX0_no_41 : E_ d mX0_no 41 ls st h = E_ d mX0_no 61 ls st h := e_gt dX0_no_41 rfl
theorem wX0_no_44 : E_ d mX0_no 44 [s0, .val (.int x)] st h = E_ d mX0_no 45 [s0, .val (.int x)] (.int x :: st) h := e_go dX0_no_44 rfl rfl
theorem wX0_no_45 : E_ d mX0_no 45 ls st h = E_ d mX0_no 47 ls (.int ((-30)) :: st) h := e_bipush dX0_no_45 kbipush_m30 rfl
theorem wX0_no_47 : E_ d mX0_no 47 ls (.int y :: .int x :: st) h = if x < y then E_ d mX0_no 50 ls st h else E_ d mX0_no 60 ls st h := e_ige dX0_no_47 rfl rfl
theorem wX0_no_50 : E_ d mX0_no 50 [s0, .val (.int x)] st h = E_ d mX0_no 51 [s0, .val (.int x)] (.int x :: st) h := e_go dX0_no_50 rfl rfl
theorem wX0_no_51 : E_ d mX0_no 51 ls st h = E_ d mX0_no 53 ls (.int ((-40)) :: st) h := e_bipush dX0_no_51 kbipush_m40 rfl
theorem wX0_no_53 : E_ d mX0_no 53 ls (.int y :: .int x :: st) h = if y < x then E_ d mX0_no 56 ls st h else E_ d mX0_no 60 ls st h := e_ile dX0_no_53 rfl rfl
theorem wX0_no_56 : E_ d mX0_no 56 ls st h = E_ d mX0_no 57 ls (.int (nI 5) :: st) h := e_iconst dX0_no_56 kiconst_5 rfl
theorem wX0_no_57 : E_ d mX0_no 57 ls st h = E_ d mX0_no 61 ls st h := e_gt dX0_no_57 rfl
theorem wX0_no_60 : E_ d mX0_no 60 ls st h = E_ d mX0_no 61 ls (.int (nI 0) :: st) h := e_iconst dX0_no_60 kiconst_0 rfl
theorem wX0_no_61 : E_ d mX0_no 61 ls (.int x :: .ref b :: st) h = E_ d mX0_no 62 ls (.int x :: .ref b :: .int x :: .ref b :: st) h := e_go dX0_no_61 rfl rfl
theorem wX0_no_62 (ht : oT h a = 40) (hi : xix x (oN h a) = true) : E_ d mX0_no 62 ls (.int x :: .ref a :: st) h = E_ d mX0_no 63 ls (.int (oI h a x.toNatClampNeg) :: st) h := e_iald dX0_no_62 rfl ht hi
theorem wX0_no_63 : E_ d mX0_no 63 ls st h = E_ d mX0_no 64 ls (.int (nI 1) :: st) h := e_iconst dX0_no_63 kiconst_1 rfl
theorem wX0_no_64 : E_ d mX0_no 64 ls (.int y :: .int x :: st) h = E_ d mX0_no 65 ls (.int (x + y) :: st) h := e_go dX0_no_64 rfl rfl
theorem wX0_no_65 (ht : oT h a = 40) (hi : xix x (oN h a) = true) : E_ d mX0_no 65 ls (.int y :: .int x :: .ref a :: st) h = E_ d mX0_no 66 ls st (pI h a (va_up (oI h a) x.toNatClampNeg y)) := e_iast dX0_no_65 rfl ht hi
theorem wX0_no_66 : E_ d mX0_no 66 [s0, .val (.int x)] st h = E_ d mX0_no 67 [s0, .val (.int x)] (.int x :: st) h := e_go dX0_no_66 rfl rfl
theorem wX0_no_67 : E_ d mX0_no 67 ls [.int x] h = some (some (.int x), h) := e_rt dX0_no_67 rfl rfl
/-! FootOut.bytes -/
theorem wX0_bytes_0 : E_ d mX0_bytes 0 ls st h = E_ d mX0_bytes 2 ls (.int (nI 24) :: st) h := e_bipush dX0_bytes_0 kbipush_24 rfl
theorem wX0_bytes_2 : E_ d mX0_bytes 2 [s0, s1, s2] (.int x :: st) h = E_ d mX0_bytes 3 [s0, xk s1, .val (.int x)] st h := e_go dX0_bytes_2 rfl rfl
theorem wX0_bytes_3 : E_ d mX0_bytes 3 [s0, s1, .val (.int x)] st h = E_ d mX0_bytes 4 [s0, s1, .val (.int x)] (.int x :: st) h := e_go dX0_bytes_3 rfl rfl
theorem wX0_bytes_4 : E_ d mX0_bytes 4 ls (.int x :: st) h = if x < 0 then E_ d mX0_bytes 36 ls st h else E_ d mX0_bytes 7 ls st h := e_zlt dX0_bytes_4 rfl rfl
theorem wX0_bytes_7 : E_ d mX0_bytes 7 [.val (.ref a), s1, s2] st h = E_ d mX0_bytes 8 [.val (.ref a), s1, s2] (.ref a :: st) h := e_go dX0_bytes_7 rfl rfl
theorem wX0_bytes_8 (ht : oT h a = 1) : E_ d mX0_bytes 8 ls (.ref a :: st) h = E_ d mX0_bytes 11 ls (va_rf (oR h a 3) :: st) h := e_getR0 dX0_bytes_8 rfl rfl ht
theorem wX0_bytes_11 : E_ d mX0_bytes 11 [.val (.ref a), s1, s2] st h = E_ d mX0_bytes 12 [.val (.ref a), s1, s2] (.ref a :: st) h := e_go dX0_bytes_11 rfl rfl
theorem wX0_bytes_12 (ht : oT h a = 1) : E_ d mX0_bytes 12 ls (.ref a :: st) h = E_ d mX0_bytes 15 ls (.int (oI h a 4) :: st) h := e_getI dX0_bytes_12 rfl rfl ht
theorem wX0_bytes_15 : E_ d mX0_bytes 15 [s0, .val (.int x), s2] st h = E_ d mX0_bytes 16 [s0, .val (.int x), s2] (.int x :: st) h := e_go dX0_bytes_15 rfl rfl
theorem wX0_bytes_16 : E_ d mX0_bytes 16 [s0, s1, .val (.int x)] st h = E_ d mX0_bytes 17 [s0, s1, .val (.int x)] (.int x :: st) h := e_go dX0_bytes_16 rfl rfl
theorem wX0_bytes_17 : E_ d mX0_bytes 17 ls (.int y :: .int x :: st) h = E_ d mX0_bytes 18 ls (.int (x >>> (y &&& 31)) :: st) h := e_go dX0_bytes_17 rfl rfl
theorem wX0_bytes_18 : E_ d mX0_bytes 18 ls (.int x :: st) h = E_ d mX0_bytes 19 ls (.int x.toInt8.toInt32 :: st) h := e_go dX0_bytes_18 rfl rfl
theorem wX0_bytes_19 (ht : oT h a = 41) (hi : xix x (oN h a) = true) : E_ d mX0_bytes 19 ls (.int y :: .int x :: .ref a :: st) h = E_ d mX0_bytes 20 ls st (pI h a (va_up (oI h a) x.toNatClampNeg (vp_nar .byte y))) := e_bast dX0_bytes_19 rfl ht hi
theorem wX0_bytes_19z (ht : oT h a = 42) (hi : xix x (oN h a) = true) : E_ d mX0_bytes 19 ls (.int y :: .int x :: .ref a :: st) h = E_ d mX0_bytes 20 ls st (pI h a (va_up (oI h a) x.toNatClampNeg (vp_nar .boolean y))) := e_zast dX0_bytes_19 rfl ht hi
theorem wX0_bytes_20 : E_ d mX0_bytes 20 [.val (.ref a), s1, s2] st h = E_ d mX0_bytes 21 [.val (.ref a), s1, s2] (.ref a :: st) h := e_go dX0_bytes_20 rfl rfl
theorem wX0_bytes_21 : E_ d mX0_bytes 21 ls (.ref a :: st) h = E_ d mX0_bytes 22 ls (.ref a :: .ref a :: st) h := e_go dX0_bytes_21 rfl rfl
theorem wX0_bytes_22 (ht : oT h a = 1) : E_ d mX0_bytes 22 ls (.ref a :: st) h = E_ d mX0_bytes 25 ls (.int (oI h a 4) :: st) h := e_getI dX0_bytes_22 rfl rfl ht
theorem wX0_bytes_25 : E_ d mX0_bytes 25 ls st h = E_ d mX0_bytes 26 ls (.int (nI 1) :: st) h := e_iconst dX0_bytes_25 kiconst_1 rfl
theorem wX0_bytes_26 : E_ d mX0_bytes 26 ls (.int y :: .int x :: st) h = E_ d mX0_bytes 27 ls (.int (x + y) :: st) h := e_go dX0_bytes_26 rfl rfl
theorem wX0_bytes_27 (ht : oT h a = 1) : E_ d mX0_bytes 27 ls (.int x :: .ref a :: st) h = E_ d mX0_bytes 30 ls st (pI h a (va_up (oI h a) 4 x)) := e_putI dX0_bytes_27 rfl rfl ht
theorem wX0_bytes_30 : E_ d mX0_bytes 30 [s0, s1, .val (.int x)] st h = E_ d mX0_bytes 33 [s0, xk s1, .val (.int (x + (-8)))] st h := by rw [← kiinc_m8]; exact e_go dX0_bytes_30 rfl rfl
theorem wX0_bytes_33 : E_ d mX0_bytes 33 ls st h = E_ d mX0_bytes 3 ls st h := e_gt dX0_bytes_33 rfl
theorem wX0_bytes_36 : E_ d mX0_bytes 36 ls [] h = some (none, h) := e_rt dX0_bytes_36 rfl rfl
/-! FootOut.text -/
theorem wX0_text_0 : E_ d mX0_text 0 [s0, .val (.int x), s2, s3] st h = E_ d mX0_text 1 [s0, .val (.int x), s2, s3] (.int x :: st) h := e_go dX0_text_0 rfl rfl
theorem wX0_text_1 : E_ d mX0_text 1 ls (.int x :: st) h = E_ d mX0_text 2 ls (.long x.toInt64 :: st) h := e_go dX0_text_1 rfl rfl
theorem wX0_text_2 : E_ d mX0_text 2 ls st h = E_ d mX0_text 3 ls (.long 0 :: st) h := e_go dX0_text_2 rfl rfl
theorem wX0_text_3 : E_ d mX0_text 3 ls st h = E_ d mX0_text 4 ls (.long 1 :: st) h := e_go dX0_text_3 rfl rfl
theorem wX0_text_4 : E_ (d + 1) mX0_text 4 ls [.long u3, .long u2, .long u1] h = (C_ d mX0_in [.long u1, .long u2, .long u3] h).bind fun r => E_ (d + 1) mX0_text 7 ls (xpu r.1 []) r.2 := e_call dX0_text_4 rfl rfl
theorem wX0_text_7 : E_ d mX0_text 7 ls (.int x :: st) h = if x = 0 then E_ d mX0_text 10 ls st h else E_ d mX0_text 17 ls st h := e_zne dX0_text_7 rfl rfl
theorem wX0_text_10 : E_ d mX0_text 10 [.val (.ref a), s1, s2, s3] st h = E_ d mX0_text 11 [.val (.ref a), s1, s2, s3] (.ref a :: st) h := e_go dX0_text_10 rfl rfl
theorem wX0_text_11 : E_ d mX0_text 11 ls st h = E_ d mX0_text 13 ls (.int ((-2)) :: st) h := e_bipush dX0_text_11 kbipush_m2 rfl
theorem wX0_text_13 (ht : oT h a = 1) : E_ (d + 1) mX0_text 13 ls [.int x1, .ref a] h = (C_ d mX0_no [.ref a, .int x1] h).bind fun r => E_ (d + 1) mX0_text 16 ls (xpu r.1 []) r.2 := e_vir dX0_text_13 rfl rfl rfl rfl rfl rfl (Nat.le_of_ble_eq_true rfl) (Nat.le_of_ble_eq_true rfl) ht
theorem wX0_text_16 : E_ d mX0_text 16 ls [.int x] h = some (some (.int x), h) := e_rt dX0_text_16 rfl rfl
theorem wX0_text_17 : E_ d mX0_text 17 [s0, s1, .val (.int x), s3] st h = E_ d mX0_text 18 [s0, s1, .val (.int x), s3] (.int x :: st) h := e_go dX0_text_17 rfl rfl
theorem wX0_text_18 : E_ d mX0_text 18 ls (.int x :: st) h = E_ d mX0_text 19 ls (.long x.toInt64 :: st) h := e_go dX0_text_18 rfl rfl
theorem wX0_text_19 : E_ d mX0_text 19 ls st h = E_ d mX0_text 20 ls (.long 0 :: st) h := e_go dX0_text_19 rfl rfl
theorem wX0_text_20 : E_ d mX0_text 20 [.val (.ref a), s1, s2, s3] st h = E_ d mX0_text 21 [.val (.ref a), s1, s2, s3] (.ref a :: st) h := e_go dX0_text_20 rfl rfl
theorem wX0_text_21 (ht : oT h a = 1) : E_ d mX0_text 21 ls (.ref a :: st) h = E_ d mX0_text 24 ls (.int (oI h a 4) :: st) h := e_getI dX0_text_21 rfl rfl ht
theorem wX0_text_24 : E_ d mX0_text 24 ls (.int x :: st) h = E_ d mX0_text 25 ls (.long x.toInt64 :: st) h := e_go dX0_text_24 rfl rfl
theorem wX0_text_25 : E_ (d + 1) mX0_text 25 ls [.long u3, .long u2, .long u1] h = (C_ d mX0_in [.long u1, .long u2, .long u3] h).bind fun r => E_ (d + 1) mX0_text 28 ls (xpu r.1 []) r.2 := e_call dX0_text_25 rfl rfl
theorem wX0_text_28 : E_ d mX0_text 28 ls (.int x :: st) h = if x = 0 then E_ d mX0_text 31 ls st h else E_ d mX0_text 38 ls st h := e_zne dX0_text_28 rfl rfl
theorem wX0_text_31 : E_ d mX0_text 31 [.val (.ref a), s1, s2, s3] st h = E_ d mX0_text 32 [.val (.ref a), s1, s2, s3] (.ref a :: st) h := e_go dX0_text_31 rfl rfl
theorem wX0_text_32 : E_ d mX0_text 32 ls st h = E_ d mX0_text 34 ls (.int ((-3)) :: st) h := e_bipush dX0_text_32 kbipush_m3 rfl
theorem wX0_text_34 (ht : oT h a = 1) : E_ (d + 1) mX0_text 34 ls [.int x1, .ref a] h = (C_ d mX0_no [.ref a, .int x1] h).bind fun r => E_ (d + 1) mX0_text 37 ls (xpu r.1 []) r.2 := e_vir dX0_text_34 rfl rfl rfl rfl rfl rfl (Nat.le_of_ble_eq_true rfl) (Nat.le_of_ble_eq_true rfl) ht
theorem wX0_text_37 : E_ d mX0_text 37 ls [.int x] h = some (some (.int x), h) := e_rt dX0_text_37 rfl rfl
theorem wX0_text_38 : E_ d mX0_text 38 ls st h = E_ d mX0_text 41 ls (.ref (oX h) :: st) (pO h 8 11) := e_go dX0_text_38 rfl rfl
theorem wX0_text_41 : E_ d mX0_text 41 ls (.ref a :: st) h = E_ d mX0_text 42 ls (.ref a :: .ref a :: st) h := e_go dX0_text_41 rfl rfl
theorem wX0_text_42 : E_ d mX0_text 42 [.val (.ref a), s1, s2, s3] st h = E_ d mX0_text 43 [.val (.ref a), s1, s2, s3] (.ref a :: st) h := e_go dX0_text_42 rfl rfl
theorem wX0_text_43 : E_ d mX0_text 43 [s0, s1, .val (.int x), s3] st h = E_ d mX0_text 44 [s0, s1, .val (.int x), s3] (.int x :: st) h := e_go dX0_text_43 rfl rfl
theorem wX0_text_44 : E_ (d + 1) mX0_text 44 ls [.int x1, .ref r1, .ref a, .ref r2] h = (C_ d mX6_init [.ref a, .ref r1, .int x1] h).bind fun r => E_ (d + 1) mX0_text 47 ls (xpu r.1 [.ref r2]) r.2 := e_call dX0_text_44 rfl rfl
theorem wX0_text_47 : E_ d mX0_text 47 [s0, s1, s2, s3] (.ref a :: st) h = E_ d mX0_text 48 [s0, s1, xk s2, .val (.ref a)] st h := e_go dX0_text_47 rfl rfl
theorem wX0_text_48 : E_ d mX0_text 48 [s0, .val (.int x), s2, s3] st h = E_ d mX0_text 49 [s0, .val (.int x), s2, s3] (.int x :: st) h := e_go dX0_text_48 rfl rfl
theorem wX0_text_49 : E_ d mX0_text 49 ls (.int x :: st) h = if x = 0 then E_ d mX0_text 52 ls st h else E_ d mX0_text 59 ls st h := e_zne dX0_text_49 rfl rfl
theorem wX0_text_52 : E_ d mX0_text 52 [s0, s1, s2, .val (.ref a)] st h = E_ d mX0_text 53 [s0, s1, s2, .val (.ref a)] (.ref a :: st) h := e_go dX0_text_52 rfl rfl
theorem wX0_text_53 (ht : oT h a = 8) : E_ (d + 1) mX0_text 53 ls [.ref a] h = (C_ d mX6_scene [.ref a] h).bind fun r => E_ (d + 1) mX0_text 56 ls (xpu r.1 []) r.2 := e_vir dX0_text_53 rfl rfl rfl rfl rfl rfl (Nat.le_of_ble_eq_true rfl) (Nat.le_of_ble_eq_true rfl) ht
theorem wX0_text_56 : E_ d mX0_text 56 ls st h = E_ d mX0_text 63 ls st h := e_gt dX0_text_56 rfl
theorem wX0_text_59 : E_ d mX0_text 59 [s0, s1, s2, .val (.ref a)] st h = E_ d mX0_text 60 [s0, s1, s2, .val (.ref a)] (.ref a :: st) h := e_go dX0_text_59 rfl rfl
theorem wX0_text_60 (ht : oT h a = 8) : E_ (d + 1) mX0_text 60 ls [.ref a] h = (C_ d mX6_law [.ref a] h).bind fun r => E_ (d + 1) mX0_text 63 ls (xpu r.1 []) r.2 := e_vir dX0_text_60 rfl rfl rfl rfl rfl rfl (Nat.le_of_ble_eq_true rfl) (Nat.le_of_ble_eq_true rfl) ht
theorem wX0_text_63 : E_ d mX0_text 63 [.val (.ref a), s1, s2, s3] st h = E_ d mX0_text 64 [.val (.ref a), s1, s2, s3] (.ref a :: st) h := e_go dX0_text_63 rfl rfl
theorem wX0_text_64 : E_ d mX0_text 64 ls st h = E_ d mX0_text 65 ls (.int (nI 0) :: st) h := e_iconst dX0_text_64 kiconst_0 rfl
theorem wX0_text_65 (ht : oT h a = 1) : E_ d mX0_text 65 ls (.int x :: .ref a :: st) h = E_ d mX0_text 68 ls st (pI h a (va_up (oI h a) 4 x)) := e_putI dX0_text_65 rfl rfl ht
theorem wX0_text_68 : E_ d mX0_text 68 [.val (.ref a), s1, s2, s3] st h = E_ d mX0_text 69 [.val (.ref a), s1, s2, s3] (.ref a :: st) h := e_go dX0_text_68 rfl rfl
theorem wX0_text_69 : E_ d mX0_text 69 [s0, s1, s2, .val (.ref a)] st h = E_ d mX0_text 70 [s0, s1, s2, .val (.ref a)] (.ref a :: st) h := e_go dX0_text_69 rfl rfl
theorem wX0_text_70 (ht : oT h a = 8) : E_ d mX0_text 70 ls (.ref a :: st) h = E_ d mX0_text 73 ls (.int (oI h a 8) :: st) h := e_getI dX0_text_70 rfl rfl ht
theorem wX0_text_73 (ht : oT h a = 1) : E_ d mX0_text 73 ls (.int x :: .ref a :: st) h = E_ d mX0_text 76 ls st (pI h a (va_up (oI h a) 5 x)) := e_putI dX0_text_73 rfl rfl ht
theorem wX0_text_76 : E_ d mX0_text 76 [.val (.ref a), s1, s2, s3] st h = E_ d mX0_text 77 [.val (.ref a), s1, s2, s3] (.ref a :: st) h := e_go dX0_text_76 rfl rfl
theorem wX0_text_77 : E_ d mX0_text 77 [s0, s1, s2, .val (.ref a)] st h = E_ d mX0_text 78 [s0, s1, s2, .val (.ref a)] (.ref a :: st) h := e_go dX0_text_77 rfl rfl
theorem wX0_text_78 (ht : oT h a = 8) : E_ d mX0_text 78 ls (.ref a :: st) h = E_ d mX0_text 81 ls (.int (oI h a 9) :: st) h := e_getI dX0_text_78 rfl rfl ht
theorem wX0_text_81 (ht : oT h a = 1) : E_ d mX0_text 81 ls (.int x :: .ref a :: st) h = E_ d mX0_text 84 ls st (pI h a (va_up (oI h a) 6 x)) := e_putI dX0_text_81 rfl rfl ht
theorem wX0_text_84 : E_ d mX0_text 84 [.val (.ref a), s1, s2, s3] st h = E_ d mX0_text 85 [.val (.ref a), s1, s2, s3] (.ref a :: st) h := e_go dX0_text_84 rfl rfl
theorem wX0_text_85 (ht : oT h a = 1) : E_ d mX0_text 85 ls (.ref a :: st) h = E_ d mX0_text 88 ls (.int (oI h a 5) :: st) h := e_getI dX0_text_85 rfl rfl ht
theorem wX0_text_88 : E_ d mX0_text 88 ls (.int x :: st) h = if x = 0 then E_ d mX0_text 103 ls st h else E_ d mX0_text 91 ls st h := e_zeq dX0_text_88 rfl rfl
theorem wX0_text_91 : E_ d mX0_text 91 [.val (.ref a), s1, s2, s3] st h = E_ d mX0_text 92 [.val (.ref a), s1, s2, s3] (.ref a :: st) h := e_go dX0_text_91 rfl rfl
theorem wX0_text_92 : E_ d mX0_text 92 ls st h = E_ d mX0_text 94 ls (.int ((-30)) :: st) h := e_bipush dX0_text_92 kbipush_m30 rfl
theorem wX0_text_94 : E_ d mX0_text 94 [.val (.ref a), s1, s2, s3] st h = E_ d mX0_text 95 [.val (.ref a), s1, s2, s3] (.ref a :: st) h := e_go dX0_text_94 rfl rfl
theorem wX0_text_95 (ht : oT h a = 1) : E_ d mX0_text 95 ls (.ref a :: st) h = E_ d mX0_text 98 ls (.int (oI h a 5) :: st) h := e_getI dX0_text_95 rfl rfl ht
theorem wX0_text_98 : E_ d mX0_text 98 ls (.int y :: .int x :: st) h = E_ d mX0_text 99 ls (.int (x - y) :: st) h := e_go dX0_text_98 rfl rfl
theorem wX0_text_99 (ht : oT h a = 1) : E_ (d + 1) mX0_text 99 ls [.int x1, .ref a] h = (C_ d mX0_no [.ref a, .int x1] h).bind fun r => E_ (d + 1) mX0_text 102 ls (xpu r.1 []) r.2 := e_vir dX0_text_99 rfl rfl rfl rfl rfl rfl (Nat.le_of_ble_eq_true rfl) (Nat.le_of_ble_eq_true rfl) ht
theorem wX0_text_102 : E_ d mX0_text 102 ls [.int x] h = some (some (.int x), h) := e_rt dX0_text_102 rfl rfl
theorem wX0_text_103 : E_ d mX0_text 103 [s0, .val (.int x), s2, s3] st h = E_ d mX0_text 104 [s0, .val (.int x), s2, s3] (.int x :: st) h := e_go dX0_text_103 rfl rfl
theorem wX0_text_104 : E_ d mX0_text 104 ls st h = E_ d mX0_text 105 ls (.int (nI 1) :: st) h := e_iconst dX0_text_104 kiconst_1 rfl
theorem wX0_text_105 : E_ d mX0_text 105 ls (.int y :: .int x :: st) h = if x = y then E_ d mX0_text 108 ls st h else E_ d mX0_text 127 ls st h := e_ine dX0_text_105 rfl rfl
theorem wX0_text_108 : E_ d mX0_text 108 [.val (.ref a), s1, s2, s3] st h = E_ d mX0_text 109 [.val (.ref a), s1, s2, s3] (.ref a :: st) h := e_go dX0_text_108 rfl rfl
theorem wX0_text_109 (ht : oT h a = 1) : E_ d mX0_text 109 ls (.ref a :: st) h = E_ d mX0_text 112 ls (va_rf (oR h a 0) :: st) h := e_getR dX0_text_109 rfl rfl ht
theorem wX0_text_112 : E_ d mX0_text 112 [s0, s1, s2, .val (.ref a)] st h = E_ d mX0_text 113 [s0, s1, s2, .val (.ref a)] (.ref a :: st) h := e_go dX0_text_112 rfl rfl
theorem wX0_text_113 (ht : oT h a = 8) : E_ d mX0_text 113 ls (.ref a :: st) h = E_ d mX0_text 116 ls (va_rf (oR h a 2) :: st) h := e_getR0 dX0_text_113 rfl rfl ht
theorem wX0_text_116 (ht : oT h a = 2) : E_ d mX0_text 116 ls (.ref b :: .ref a :: st) h = E_ d mX0_text 119 ls st (pR h a (va_up (oR h a) 1 (some b))) := e_putR dX0_text_116 rfl rfl ht
theorem wX0_text_119 : E_ d mX0_text 119 [s0, s1, s2, .val (.ref a)] st h = E_ d mX0_text 120 [s0, s1, s2, .val (.ref a)] (.ref a :: st) h := e_go dX0_text_119 rfl rfl
theorem wX0_text_120 (ht : oT h a = 8) : E_ d mX0_text 120 ls (.ref a :: st) h = E_ d mX0_text 123 ls (va_rf (oR h a 2) :: st) h := e_getR0 dX0_text_120 rfl rfl ht
theorem wX0_text_123 (ht : oT h a = 4) : E_ (d + 1) mX0_text 123 ls [.ref a] h = (C_ d mJ2_size [.ref a] h).bind fun r => E_ (d + 1) mX0_text 126 ls (xpu r.1 []) r.2 := e_vir dX0_text_123 rfl rfl rfl rfl rfl rfl (Nat.le_of_ble_eq_true rfl) (Nat.le_of_ble_eq_true rfl) ht
theorem wX0_text_126 : E_ d mX0_text 126 ls [.int x] h = some (some (.int x), h) := e_rt dX0_text_126 rfl rfl
theorem wX0_text_127 : E_ d mX0_text 127 [.val (.ref a), s1, s2, s3] st h = E_ d mX0_text 128 [.val (.ref a), s1, s2, s3] (.ref a :: st) h := e_go dX0_text_127 rfl rfl
theorem wX0_text_128 (ht : oT h a = 1) : E_ d mX0_text 128 ls (.ref a :: st) h = E_ d mX0_text 131 ls (va_rf (oR h a 0) :: st) h := e_getR dX0_text_128 rfl rfl ht
theorem wX0_text_131 : E_ d mX0_text 131 [s0, s1, s2, .val (.ref a)] st h = E_ d mX0_text 132 [s0, s1, s2, .val (.ref a)] (.ref a :: st) h := e_go dX0_text_131 rfl rfl
theorem wX0_text_132 (ht : oT h a = 8) : E_ d mX0_text 132 ls (.ref a :: st) h = E_ d mX0_text 135 ls (va_rf (oR h a 1) :: st) h := e_getR0 dX0_text_132 rfl rfl ht
theorem wX0_text_135 (ht : oT h a = 2) : E_ d mX0_text 135 ls (.ref b :: .ref a :: st) h = E_ d mX0_text 138 ls st (pR h a (va_up (oR h a) 0 (some b))) := e_putR dX0_text_135 rfl rfl ht
theorem wX0_text_138 : E_ d mX0_text 138 [s0, s1, s2, .val (.ref a)] st h = E_ d mX0_text 139 [s0, s1, s2, .val (.ref a)] (.ref a :: st) h := e_go dX0_text_138 rfl rfl
theorem wX0_text_139 (ht : oT h a = 8) : E_ d mX0_text 139 ls (.ref a :: st) h = E_ d mX0_text 142 ls (va_rf (oR h a 1) :: st) h := e_getR0 dX0_text_139 rfl rfl ht
theorem wX0_text_142 (ht : oT h a = 3) : E_ d mX0_text 142 ls (.ref a :: st) h = E_ d mX0_text 145 ls (.int (oI h a 7) :: st) h := e_getI dX0_text_142 rfl rfl ht
theorem wX0_text_145 : E_ d mX0_text 145 ls [.int x] h = some (some (.int x), h) := e_rt dX0_text_145 rfl rfl
/-! FootOut.in -/
theorem wX0_in_0 : E_ d mX0_in 0 [.val (.long u), s1, s2, s3, s4, s5] st h = E_ d mX0_in 1 [.val (.long u), s1, s2, s3, s4, s5] (.long u :: st) h := e_go dX0_in_0 rfl rfl
theorem wX0_in_1 : E_ d mX0_in 1 [s0, s1, .val (.long u), s3, s4, s5] st h = E_ d mX0_in 2 [s0, s1, .val (.long u), s3, s4, s5] (.long u :: st) h := e_go dX0_in_1 rfl rfl
theorem wX0_in_2 : E_ d mX0_in 2 ls (.long v :: .long u :: st) h = E_ d mX0_in 3 ls (.int (lg_cmp u v) :: st) h := e_go dX0_in_2 rfl rfl
theorem wX0_in_3 : E_ d mX0_in 3 ls (.int x :: st) h = if x < 0 then E_ d mX0_in 17 ls st h else E_ d mX0_in 6 ls st h := e_zlt dX0_in_3 rfl rfl
theorem wX0_in_6 : E_ d mX0_in 6 [.val (.long u), s1, s2, s3, s4, s5] st h = E_ d mX0_in 7 [.val (.long u), s1, s2, s3, s4, s5] (.long u :: st) h := e_go dX0_in_6 rfl rfl
theorem wX0_in_7 : E_ d mX0_in 7 [s0, s1, s2, s3, .val (.long u), s5] st h = E_ d mX0_in 9 [s0, s1, s2, s3, .val (.long u), s5] (.long u :: st) h := e_go dX0_in_7 rfl rfl
theorem wX0_in_9 : E_ d mX0_in 9 ls (.long v :: .long u :: st) h = E_ d mX0_in 10 ls (.int (lg_cmp u v) :: st) h := e_go dX0_in_9 rfl rfl
theorem wX0_in_10 : E_ d mX0_in 10 ls (.int x :: st) h = if 0 < x then E_ d mX0_in 17 ls st h else E_ d mX0_in 13 ls st h := e_zgt dX0_in_10 rfl rfl
theorem wX0_in_13 : E_ d mX0_in 13 ls st h = E_ d mX0_in 14 ls (.int (nI 1) :: st) h := e_iconst dX0_in_13 kiconst_1 rfl
theorem wX0_in_14 : E_ d mX0_in 14 ls st h = E_ d mX0_in 18 ls st h := e_gt dX0_in_14 rfl
theorem wX0_in_17 : E_ d mX0_in 17 ls st h = E_ d mX0_in 18 ls (.int (nI 0) :: st) h := e_iconst dX0_in_17 kiconst_0 rfl
theorem wX0_in_18 (hx : x = 0 ∨ x = 1) : E_ d mX0_in 18 ls [.int x] h = some (some (.int x), h) := e_rtZ dX0_in_18 rfl hx
/-! FootOut.fault -/
theorem wX0_fault_0 : E_ d mX0_fault 0 [s0, .val (.int x)] st h = E_ d mX0_fault 1 [s0, .val (.int x)] (.int x :: st) h := e_go dX0_fault_0 rfl rfl
theorem wX0_fault_1 : E_ d mX0_fault 1 ls (.int x :: st) h = if x = 0 then E_ d mX0_fault 4 ls st h else E_ d mX0_fault 11 ls st h := e_zne dX0_fault_1 rfl rfl
theorem wX0_fault_4 : E_ d mX0_fault 4 [.val (.ref a), s1] st h = E_ d mX0_fault 5 [.val (.ref a), s1] (.ref a :: st) h := e_go dX0_fault_4 rfl rfl
theorem wX0_fault_5 (ht : oT h a = 1) : E_ d mX0_fault 5 ls (.ref a :: st) h = E_ d mX0_fault 8 ls (.int (oI h a 5) :: st) h := e_getI dX0_fault_5 rfl rfl ht
theorem wX0_fault_8 : E_ d mX0_fault 8 ls st h = E_ d mX0_fault 24 ls st h := e_gt dX0_fault_8 rfl
theorem wX0_fault_11 : E_ d mX0_fault 11 [s0, .val (.int x)] st h = E_ d mX0_fault 12 [s0, .val (.int x)] (.int x :: st) h := e_go dX0_fault_11 rfl rfl
theorem wX0_fault_12 : E_ d mX0_fault 12 ls st h = E_ d mX0_fault 13 ls (.int (nI 1) :: st) h := e_iconst dX0_fault_12 kiconst_1 rfl
theorem wX0_fault_13 : E_ d mX0_fault 13 ls (.int y :: .int x :: st) h = if x = y then E_ d mX0_fault 16 ls st h else E_ d mX0_fault 23 ls st h := e_ine dX0_fault_13 rfl rfl
theorem wX0_fault_16 : E_ d mX0_fault 16 [.val (.ref a), s1] st h = E_ d mX0_fault 17 [.val (.ref a), s1] (.ref a :: st) h := e_go dX0_fault_16 rfl rfl
theorem wX0_fault_17 (ht : oT h a = 1) : E_ d mX0_fault 17 ls (.ref a :: st) h = E_ d mX0_fault 20 ls (.int (oI h a 6) :: st) h := e_getI dX0_fault_17 rfl rfl ht
theorem wX0_fault_20 : E_ d mX0_fault 20 ls st h = E_ d mX0_fault 24 ls st h := e_gt dX0_fault_20 rfl
theorem wX0_fault_23 : E_ d mX0_fault 23 ls st h = E_ d mX0_fault 24 ls (.int ((-1)) :: st) h := e_iconst dX0_fault_23 kiconst_m1 rfl
theorem wX0_fault_24 : E_ d mX0_fault 24 ls [.int x] h = some (some (.int x), h) := e_rt dX0_fault_24 rfl rfl
/-! FootOut.car -/
theorem wX0_car_0 : E_ d mX0_car 0 [.val (.ref a), s1, s2, s3] st h = E_ d mX0_car 1 [.val (.ref a), s1, s2, s3] (.ref a :: st) h := e_go dX0_car_0 rfl rfl
theorem wX0_car_1 : E_ d mX0_car 1 [s0, .val (.int x), s2, s3] st h = E_ d mX0_car 2 [s0, .val (.int x), s2, s3] (.int x :: st) h := e_go dX0_car_1 rfl rfl
theorem wX0_car_2 (ht : oT h a = 1) : E_ (d + 1) mX0_car 2 ls [.int x1, .ref a] h = (C_ d mX0_isCar [.ref a, .int x1] h).bind fun r => E_ (d + 1) mX0_car 5 ls (xpu r.1 []) r.2 := e_vir dX0_car_2 rfl rfl rfl rfl rfl rfl (Nat.le_of_ble_eq_true rfl) (Nat.le_of_ble_eq_true rfl) ht
theorem wX0_car_5 : E_ d mX0_car 5 ls (.int x :: st) h = if x = 0 then E_ d mX0_car 20 ls st h else E_ d mX0_car 8 ls st h := e_zeq dX0_car_5 rfl rfl
theorem wX0_car_8 : E_ d mX0_car 8 [s0, s1, .val (.int x), s3] st h = E_ d mX0_car 9 [s0, s1, .val (.int x), s3] (.int x :: st) h := e_go dX0_car_8 rfl rfl
theorem wX0_car_9 : E_ d mX0_car 9 ls (.int x :: st) h = E_ d mX0_car 10 ls (.long x.toInt64 :: st) h := e_go dX0_car_9 rfl rfl
theorem wX0_car_10 : E_ d mX0_car 10 ls st h = E_ d mX0_car 11 ls (.long 0 :: st) h := e_go dX0_car_10 rfl rfl
theorem wX0_car_11 : E_ d mX0_car 11 ls st h = E_ d mX0_car 14 ls (.long (3) :: st) h := e_go dX0_car_11 rfl rfl
theorem wX0_car_14 : E_ (d + 1) mX0_car 14 ls [.long u3, .long u2, .long u1] h = (C_ d mX0_in [.long u1, .long u2, .long u3] h).bind fun r => E_ (d + 1) mX0_car 17 ls (xpu r.1 []) r.2 := e_call dX0_car_14 rfl rfl
theorem wX0_car_17 : E_ d mX0_car 17 ls (.int x :: st) h = if x = 0 then E_ d mX0_car 20 ls st h else E_ d mX0_car 27 ls st h := e_zne dX0_car_17 rfl rfl
theorem wX0_car_20 : E_ d mX0_car 20 [.val (.ref a), s1, s2, s3] st h = E_ d mX0_car 21 [.val (.ref a), s1, s2, s3] (.ref a :: st) h := e_go dX0_car_20 rfl rfl
theorem wX0_car_21 : E_ d mX0_car 21 ls st h = E_ d mX0_car 23 ls (.int ((-2)) :: st) h := e_bipush dX0_car_21 kbipush_m2 rfl
theorem wX0_car_23 (ht : oT h a = 1) : E_ (d + 1) mX0_car 23 ls [.int x1, .ref a] h = (C_ d mX0_no [.ref a, .int x1] h).bind fun r => E_ (d + 1) mX0_car 26 ls (xpu r.1 []) r.2 := e_vir dX0_car_23 rfl rfl rfl rfl rfl rfl (Nat.le_of_ble_eq_true rfl) (Nat.le_of_ble_eq_true rfl) ht
theorem wX0_car_26 : E_ d mX0_car 26 ls [.int x] h = some (some (.int x), h) := e_rt dX0_car_26 rfl rfl
theorem wX0_car_27 : E_ d mX0_car 27 [.val (.ref a), s1, s2, s3] st h = E_ d mX0_car 28 [.val (.ref a), s1, s2, s3] (.ref a :: st) h := e_go dX0_car_27 rfl rfl
theorem wX0_car_28 (ht : oT h a = 1) : E_ d mX0_car 28 ls (.ref a :: st) h = E_ d mX0_car 31 ls (va_rf (oR h a 0) :: st) h := e_getR dX0_car_28 rfl rfl ht
theorem wX0_car_31 (ht : oT h a = 2) : E_ d mX0_car 31 ls (.ref a :: st) h = E_ d mX0_car 34 ls (va_rf (oR h a 0) :: st) h := e_getR dX0_car_31 rfl rfl ht
theorem wX0_car_34 (ht : oT h a = 3) : E_ d mX0_car 34 ls (.ref a :: st) h = E_ d mX0_car 37 ls (va_rf (oR h a 0) :: st) h := e_getR0 dX0_car_34 rfl rfl ht
theorem wX0_car_37 : E_ d mX0_car 37 [s0, .val (.int x), s2, s3] st h = E_ d mX0_car 38 [s0, .val (.int x), s2, s3] (.int x :: st) h := e_go dX0_car_37 rfl rfl
theorem wX0_car_38 (ht : oT h a = 4) : E_ (d + 1) mX0_car 38 ls [.int x1, .ref a] h = (C_ d mJ2_get [.ref a, .int x1] h).bind fun r => E_ (d + 1) mX0_car 41 ls (xpu r.1 []) r.2 := e_vir dX0_car_38 rfl rfl rfl rfl rfl rfl (Nat.le_of_ble_eq_true rfl) (Nat.le_of_ble_eq_true rfl) ht
theorem wX0_car_41 (ht : oT h a = 9) : E_ d mX0_car 41 ls (.ref a :: st) h = E_ d mX0_car 44 ls (.ref a :: st) h := e_cast dX0_car_41 rfl rfl ht
theorem wX0_car_41n : E_ d mX0_car 41 ls (.null :: st) h = E_ d mX0_car 44 ls (.null :: st) h := e_go dX0_car_41 rfl rfl
theorem wX0_car_44 : E_ d mX0_car 44 [s0, s1, s2, s3] (.ref a :: st) h = E_ d mX0_car 45 [s0, s1, xk s2, .val (.ref a)] st h := e_go dX0_car_44 rfl rfl
theorem wX0_car_45 : E_ d mX0_car 45 [s0, s1, .val (.int x), s3] st h = E_ d mX0_car 46 [s0, s1, .val (.int x), s3] (.int x :: st) h := e_go dX0_car_45 rfl rfl
theorem wX0_car_46 : E_ d mX0_car 46 ls (.int x :: st) h = if x = 0 then E_ d mX0_car 49 ls st h else E_ d mX0_car 56 ls st h := e_zne dX0_car_46 rfl rfl
theorem wX0_car_49 : E_ d mX0_car 49 [s0, s1, s2, .val (.ref a)] st h = E_ d mX0_car 50 [s0, s1, s2, .val (.ref a)] (.ref a :: st) h := e_go dX0_car_49 rfl rfl
theorem wX0_car_50 (ht : oT h a = 9) : E_ d mX0_car 50 ls (.ref a :: st) h = E_ d mX0_car 53 ls (.int (oI h a 0) :: st) h := e_getI0 dX0_car_50 rfl rfl ht
theorem wX0_car_53 : E_ d mX0_car 53 ls st h = E_ d mX0_car 84 ls st h := e_gt dX0_car_53 rfl
theorem wX0_car_56 : E_ d mX0_car 56 [s0, s1, .val (.int x), s3] st h = E_ d mX0_car 57 [s0, s1, .val (.int x), s3] (.int x :: st) h := e_go dX0_car_56 rfl rfl
theorem wX0_car_57 : E_ d mX0_car 57 ls st h = E_ d mX0_car 58 ls (.int (nI 1) :: st) h := e_iconst dX0_car_57 kiconst_1 rfl
theorem wX0_car_58 : E_ d mX0_car 58 ls (.int y :: .int x :: st) h = if x = y then E_ d mX0_car 61 ls st h else E_ d mX0_car 68 ls st h := e_ine dX0_car_58 rfl rfl
theorem wX0_car_61 : E_ d mX0_car 61 [s0, s1, s2, .val (.ref a)] st h = E_ d mX0_car 62 [s0, s1, s2, .val (.ref a)] (.ref a :: st) h := e_go dX0_car_61 rfl rfl
theorem wX0_car_62 (ht : oT h a = 9) : E_ d mX0_car 62 ls (.ref a :: st) h = E_ d mX0_car 65 ls (.int (oI h a 1) :: st) h := e_getI0 dX0_car_62 rfl rfl ht
theorem wX0_car_65 : E_ d mX0_car 65 ls st h = E_ d mX0_car 84 ls st h := e_gt dX0_car_65 rfl
theorem wX0_car_68 : E_ d mX0_car 68 [s0, s1, .val (.int x), s3] st h = E_ d mX0_car 69 [s0, s1, .val (.int x), s3] (.int x :: st) h := e_go dX0_car_68 rfl rfl
theorem wX0_car_69 : E_ d mX0_car 69 ls st h = E_ d mX0_car 70 ls (.int (nI 2) :: st) h := e_iconst dX0_car_69 kiconst_2 rfl
theorem wX0_car_70 : E_ d mX0_car 70 ls (.int y :: .int x :: st) h = if x = y then E_ d mX0_car 73 ls st h else E_ d mX0_car 80 ls st h := e_ine dX0_car_70 rfl rfl
theorem wX0_car_73 : E_ d mX0_car 73 [s0, s1, s2, .val (.ref a)] st h = E_ d mX0_car 74 [s0, s1, s2, .val (.ref a)] (.ref a :: st) h := e_go dX0_car_73 rfl rfl
theorem wX0_car_74 (ht : oT h a = 9) : E_ d mX0_car 74 ls (.ref a :: st) h = E_ d mX0_car 77 ls (.int (oI h a 2) :: st) h := e_getI0 dX0_car_74 rfl rfl ht
theorem wX0_car_77 : E_ d mX0_car 77 ls st h = E_ d mX0_car 84 ls st h := e_gt dX0_car_77 rfl
theorem wX0_car_80 : E_ d mX0_car 80 [s0, s1, s2, .val (.ref a)] st h = E_ d mX0_car 81 [s0, s1, s2, .val (.ref a)] (.ref a :: st) h := e_go dX0_car_80 rfl rfl
theorem wX0_car_81 (ht : oT h a = 9) : E_ d mX0_car 81 ls (.ref a :: st) h = E_ d mX0_car 84 ls (.int (oI h a 3) :: st) h := e_getI0 dX0_car_81 rfl rfl ht
theorem wX0_car_84 : E_ d mX0_car 84 ls [.int x] h = some (some (.int x), h) := e_rt dX0_car_84 rfl rfl
/-! FootOut.isCar -/
theorem wX0_isCar_0 : E_ d mX0_isCar 0 [s0, .val (.int x)] st h = E_ d mX0_isCar 1 [s0, .val (.int x)] (.int x :: st) h := e_go dX0_isCar_0 rfl rfl
theorem wX0_isCar_1 : E_ d mX0_isCar 1 ls (.int x :: st) h = E_ d mX0_isCar 2 ls (.long x.toInt64 :: st) h := e_go dX0_isCar_1 rfl rfl
theorem wX0_isCar_2 : E_ d mX0_isCar 2 ls st h = E_ d mX0_isCar 3 ls (.long 0 :: st) h := e_go dX0_isCar_2 rfl rfl
theorem wX0_isCar_3 : E_ d mX0_isCar 3 [.val (.ref a), s1] st h = E_ d mX0_isCar 4 [.val (.ref a), s1] (.ref a :: st) h := e_go dX0_isCar_3 rfl rfl
theorem wX0_isCar_4 (ht : oT h a = 1) : E_ d mX0_isCar 4 ls (.ref a :: st) h = E_ d mX0_isCar 7 ls (va_rf (oR h a 0) :: st) h := e_getR dX0_isCar_4 rfl rfl ht
theorem wX0_isCar_7 (ht : oT h a = 2) : E_ d mX0_isCar 7 ls (.ref a :: st) h = E_ d mX0_isCar 10 ls (va_rf (oR h a 0) :: st) h := e_getR dX0_isCar_7 rfl rfl ht
theorem wX0_isCar_10 (ht : oT h a = 3) : E_ d mX0_isCar 10 ls (.ref a :: st) h = E_ d mX0_isCar 13 ls (va_rf (oR h a 0) :: st) h := e_getR0 dX0_isCar_10 rfl rfl ht
theorem wX0_isCar_13 (ht : oT h a = 4) : E_ (d + 1) mX0_isCar 13 ls [.ref a, .long u1, .long u2] h = (C_ d mJ2_size [.ref a] h).bind fun r => E_ (d + 1) mX0_isCar 16 ls (xpu r.1 [.long u1, .long u2]) r.2 := e_vir dX0_isCar_13 rfl rfl rfl rfl rfl rfl (Nat.le_of_ble_eq_true rfl) (Nat.le_of_ble_eq_true rfl) ht
theorem wX0_isCar_16 : E_ d mX0_isCar 16 ls st h = E_ d mX0_isCar 17 ls (.int (nI 1) :: st) h := e_iconst dX0_isCar_16 kiconst_1 rfl
theorem wX0_isCar_17 : E_ d mX0_isCar 17 ls (.int y :: .int x :: st) h = E_ d mX0_isCar 18 ls (.int (x - y) :: st) h := e_go dX0_isCar_17 rfl rfl
theorem wX0_isCar_18 : E_ d mX0_isCar 18 ls (.int x :: st) h = E_ d mX0_isCar 19 ls (.long x.toInt64 :: st) h := e_go dX0_isCar_18 rfl rfl
theorem wX0_isCar_19 : E_ (d + 1) mX0_isCar 19 ls [.long u3, .long u2, .long u1] h = (C_ d mX0_in [.long u1, .long u2, .long u3] h).bind fun r => E_ (d + 1) mX0_isCar 22 ls (xpu r.1 []) r.2 := e_call dX0_isCar_19 rfl rfl
theorem wX0_isCar_22 (hx : x = 0 ∨ x = 1) : E_ d mX0_isCar 22 ls [.int x] h = some (some (.int x), h) := e_rtZ dX0_isCar_22 rfl hx
/-! FootOut.trait -/
theorem wX0_trait_0 : E_ d mX0_trait 0 [s0, .val (.int x), s2, s3] st h = E_ d mX0_trait 1 [s0, .val (.int x), s2, s3] (.int x :: st) h := e_go dX0_trait_0 rfl rfl
theorem wX0_trait_1 : E_ (d + 1) mX0_trait 1 ls [.int x1] h = (C_ d mX0_isTrait [.int x1] h).bind fun r => E_ (d + 1) mX0_trait 4 ls (xpu r.1 []) r.2 := e_call dX0_trait_1 rfl rfl
theorem wX0_trait_4 : E_ d mX0_trait 4 ls (.int x :: st) h = if x = 0 then E_ d mX0_trait 7 ls st h else E_ d mX0_trait 14 ls st h := e_zne dX0_trait_4 rfl rfl
theorem wX0_trait_7 : E_ d mX0_trait 7 [.val (.ref a), s1, s2, s3] st h = E_ d mX0_trait 8 [.val (.ref a), s1, s2, s3] (.ref a :: st) h := e_go dX0_trait_7 rfl rfl
theorem wX0_trait_8 : E_ d mX0_trait 8 ls st h = E_ d mX0_trait 10 ls (.int ((-2)) :: st) h := e_bipush dX0_trait_8 kbipush_m2 rfl
theorem wX0_trait_10 (ht : oT h a = 1) : E_ (d + 1) mX0_trait 10 ls [.int x1, .ref a] h = (C_ d mX0_no [.ref a, .int x1] h).bind fun r => E_ (d + 1) mX0_trait 13 ls (xpu r.1 []) r.2 := e_vir dX0_trait_10 rfl rfl rfl rfl rfl rfl (Nat.le_of_ble_eq_true rfl) (Nat.le_of_ble_eq_true rfl) ht
theorem wX0_trait_13 : E_ d mX0_trait 13 ls [.int x] h = some (some (.int x), h) := e_rt dX0_trait_13 rfl rfl
theorem wX0_trait_14 : E_ d mX0_trait 14 [.val (.ref a), s1, s2, s3] st h = E_ d mX0_trait 15 [.val (.ref a), s1, s2, s3] (.ref a :: st) h := e_go dX0_trait_14 rfl rfl
theorem wX0_trait_15 (ht : oT h a = 1) : E_ d mX0_trait 15 ls (.ref a :: st) h = E_ d mX0_trait 18 ls (va_rf (oR h a 0) :: st) h := e_getR dX0_trait_15 rfl rfl ht
theorem wX0_trait_18 (ht : oT h a = 2) : E_ d mX0_trait 18 ls (.ref a :: st) h = E_ d mX0_trait 21 ls (va_rf (oR h a 0) :: st) h := e_getR dX0_trait_18 rfl rfl ht
theorem wX0_trait_21 (ht : oT h a = 3) : E_ d mX0_trait 21 ls (.ref a :: st) h = E_ d mX0_trait 24 ls (.int (oI h a 2) :: st) h := e_getI dX0_trait_21 rfl rfl ht
theorem wX0_trait_24 : E_ d mX0_trait 24 [s0, .val (.int x), s2, s3] st h = E_ d mX0_trait 25 [s0, .val (.int x), s2, s3] (.int x :: st) h := e_go dX0_trait_24 rfl rfl
theorem wX0_trait_25 : E_ d mX0_trait 25 ls (.int y :: .int x :: st) h = E_ d mX0_trait 26 ls (.int (x >>> (y &&& 31)) :: st) h := e_go dX0_trait_25 rfl rfl
theorem wX0_trait_26 : E_ d mX0_trait 26 ls st h = E_ d mX0_trait 27 ls (.int (nI 1) :: st) h := e_iconst dX0_trait_26 kiconst_1 rfl
theorem wX0_trait_27 : E_ d mX0_trait 27 ls (.int y :: .int x :: st) h = E_ d mX0_trait 28 ls (.int (x &&& y) :: st) h := e_go dX0_trait_27 rfl rfl
theorem wX0_trait_28 : E_ d mX0_trait 28 [s0, s1, s2, s3] (.int x :: st) h = E_ d mX0_trait 29 [s0, s1, xk s2, .val (.int x)] st h := e_go dX0_trait_28 rfl rfl
theorem wX0_trait_29 : E_ d mX0_trait 29 [s0, s1, .val (.int x), s3] st h = E_ d mX0_trait 30 [s0, s1, .val (.int x), s3] (.int x :: st) h := e_go dX0_trait_29 rfl rfl
theorem wX0_trait_30 : E_ d mX0_trait 30 [s0, s1, s2, .val (.int x)] st h = E_ d mX0_trait 31 [s0, s1, s2, .val (.int x)] (.int x :: st) h := e_go dX0_trait_30 rfl rfl
theorem wX0_trait_31 : E_ d mX0_trait 31 ls st h = E_ d mX0_trait 32 ls (.int (nI 1) :: st) h := e_iconst dX0_trait_31 kiconst_1 rfl
theorem wX0_trait_32 : E_ d mX0_trait 32 ls (.int y :: .int x :: st) h = if x = y then E_ d mX0_trait 35 ls st h else E_ d mX0_trait 39 ls st h := e_ine dX0_trait_32 rfl rfl
theorem wX0_trait_35 : E_ d mX0_trait 35 ls st h = E_ d mX0_trait 36 ls (.int (nI 1) :: st) h := e_iconst dX0_trait_35 kiconst_1 rfl
theorem wX0_trait_36 : E_ d mX0_trait 36 ls st h = E_ d mX0_trait 40 ls st h := e_gt dX0_trait_36 rfl
theorem wX0_trait_39 : E_ d mX0_trait 39 ls st h = E_ d mX0_trait 40 ls (.int (nI 0) :: st) h := e_iconst dX0_trait_39 kiconst_0 rfl
theorem wX0_trait_40 : E_ d mX0_trait 40 ls (.int y :: .int x :: st) h = if x = y then E_ d mX0_trait 61 ls st h else E_ d mX0_trait 43 ls st h := e_ieq dX0_trait_40 rfl rfl
theorem wX0_trait_43 : E_ d mX0_trait 43 [.val (.ref a), s1, s2, s3] st h = E_ d mX0_trait 44 [.val (.ref a), s1, s2, s3] (.ref a :: st) h := e_go dX0_trait_43 rfl rfl
theorem wX0_trait_44 (ht : oT h a = 1) : E_ d mX0_trait 44 ls (.ref a :: st) h = E_ d mX0_trait 47 ls (va_rf (oR h a 0) :: st) h := e_getR dX0_trait_44 rfl rfl ht
theorem wX0_trait_47 (ht : oT h a = 2) : E_ d mX0_trait 47 ls (.ref a :: st) h = E_ d mX0_trait 50 ls (va_rf (oR h a 0) :: st) h := e_getR dX0_trait_47 rfl rfl ht
theorem wX0_trait_50 : E_ d mX0_trait 50 ls (.ref a :: st) h = E_ d mX0_trait 51 ls (.ref a :: .ref a :: st) h := e_go dX0_trait_50 rfl rfl
theorem wX0_trait_51 (ht : oT h a = 3) : E_ d mX0_trait 51 ls (.ref a :: st) h = E_ d mX0_trait 54 ls (.int (oI h a 2) :: st) h := e_getI dX0_trait_51 rfl rfl ht
theorem wX0_trait_54 : E_ d mX0_trait 54 ls st h = E_ d mX0_trait 55 ls (.int (nI 1) :: st) h := e_iconst dX0_trait_54 kiconst_1 rfl
theorem wX0_trait_55 : E_ d mX0_trait 55 [s0, .val (.int x), s2, s3] st h = E_ d mX0_trait 56 [s0, .val (.int x), s2, s3] (.int x :: st) h := e_go dX0_trait_55 rfl rfl
theorem wX0_trait_56 : E_ d mX0_trait 56 ls (.int y :: .int x :: st) h = E_ d mX0_trait 57 ls (.int (x <<< (y &&& 31)) :: st) h := e_go dX0_trait_56 rfl rfl
theorem wX0_trait_57 : E_ d mX0_trait 57 ls (.int y :: .int x :: st) h = E_ d mX0_trait 58 ls (.int (x ^^^ y) :: st) h := e_go dX0_trait_57 rfl rfl
theorem wX0_trait_58 (ht : oT h a = 3) : E_ d mX0_trait 58 ls (.int x :: .ref a :: st) h = E_ d mX0_trait 61 ls st (pI h a (va_up (oI h a) 2 x)) := e_putI dX0_trait_58 rfl rfl ht
theorem wX0_trait_61 : E_ d mX0_trait 61 [s0, s1, s2, .val (.int x)] st h = E_ d mX0_trait 62 [s0, s1, s2, .val (.int x)] (.int x :: st) h := e_go dX0_trait_61 rfl rfl
theorem wX0_trait_62 : E_ d mX0_trait 62 ls [.int x] h = some (some (.int x), h) := e_rt dX0_trait_62 rfl rfl
/-! FootOut.isTrait -/
theorem wX0_isTrait_0 : E_ d mX0_isTrait 0 [.val (.int x)] st h = E_ d mX0_isTrait 1 [.val (.int x)] (.int x :: st) h := e_go dX0_isTrait_0 rfl rfl
theorem wX0_isTrait_1 : E_ d mX0_isTrait 1 ls (.int x :: st) h = E_ d mX0_isTrait 2 ls (.long x.toInt64 :: st) h := e_go dX0_isTrait_1 rfl rfl
theorem wX0_isTrait_2 : E_ d mX0_isTrait 2 ls st h = E_ d mX0_isTrait 3 ls (.long 0 :: st) h := e_go dX0_isTrait_2 rfl rfl
theorem wX0_isTrait_3 : E_ d mX0_isTrait 3 ls st h = E_ d mX0_isTrait 6 ls (.long (7) :: st) h := e_go dX0_isTrait_3 rfl rfl
theorem wX0_isTrait_6 : E_ (d + 1) mX0_isTrait 6 ls [.long u3, .long u2, .long u1] h = (C_ d mX0_in [.long u1, .long u2, .long u3] h).bind fun r => E_ (d + 1) mX0_isTrait 9 ls (xpu r.1 []) r.2 := e_call dX0_isTrait_6 rfl rfl
theorem wX0_isTrait_9 (hx : x = 0 ∨ x = 1) : E_ d mX0_isTrait 9 ls [.int x] h = some (some (.int x), h) := e_rtZ dX0_isTrait_9 rfl hx
/-! FootOut.set -/
theorem wX0_set_0 : E_ d mX0_set 0 [s0, .val (.int x), s2, s3] st h = E_ d mX0_set 1 [s0, .val (.int x), s2, s3] (.int x :: st) h := e_go dX0_set_0 rfl rfl
theorem wX0_set_1 : E_ d mX0_set 1 ls (.int x :: st) h = E_ d mX0_set 2 ls (.long x.toInt64 :: st) h := e_go dX0_set_1 rfl rfl
theorem wX0_set_2 : E_ d mX0_set 2 ls st h = E_ d mX0_set 3 ls (.long 0 :: st) h := e_go dX0_set_2 rfl rfl
theorem wX0_set_3 : E_ d mX0_set 3 ls st h = E_ d mX0_set 6 ls (.long (3) :: st) h := e_go dX0_set_3 rfl rfl
theorem wX0_set_6 : E_ (d + 1) mX0_set 6 ls [.long u3, .long u2, .long u1] h = (C_ d mX0_in [.long u1, .long u2, .long u3] h).bind fun r => E_ (d + 1) mX0_set 9 ls (xpu r.1 []) r.2 := e_call dX0_set_6 rfl rfl
theorem wX0_set_9 : E_ d mX0_set 9 ls (.int x :: st) h = if x = 0 then E_ d mX0_set 12 ls st h else E_ d mX0_set 19 ls st h := e_zne dX0_set_9 rfl rfl
theorem wX0_set_12 : E_ d mX0_set 12 [.val (.ref a), s1, s2, s3] st h = E_ d mX0_set 13 [.val (.ref a), s1, s2, s3] (.ref a :: st) h := e_go dX0_set_12 rfl rfl
theorem wX0_set_13 : E_ d mX0_set 13 ls st h = E_ d mX0_set 15 ls (.int ((-2)) :: st) h := e_bipush dX0_set_13 kbipush_m2 rfl
theorem wX0_set_15 (ht : oT h a = 1) : E_ (d + 1) mX0_set 15 ls [.int x1, .ref a] h = (C_ d mX0_no [.ref a, .int x1] h).bind fun r => E_ (d + 1) mX0_set 18 ls (xpu r.1 []) r.2 := e_vir dX0_set_15 rfl rfl rfl rfl rfl rfl (Nat.le_of_ble_eq_true rfl) (Nat.le_of_ble_eq_true rfl) ht
theorem wX0_set_18 : E_ d mX0_set 18 ls [.int x] h = some (some (.int x), h) := e_rt dX0_set_18 rfl rfl
theorem wX0_set_19 : E_ d mX0_set 19 [s0, s1, .val (.int x), s3] st h = E_ d mX0_set 20 [s0, s1, .val (.int x), s3] (.int x :: st) h := e_go dX0_set_19 rfl rfl
theorem wX0_set_20 : E_ d mX0_set 20 ls (.int x :: st) h = E_ d mX0_set 21 ls (.long x.toInt64 :: st) h := e_go dX0_set_20 rfl rfl
theorem wX0_set_21 : E_ d mX0_set 21 [s0, .val (.int x), s2, s3] st h = E_ d mX0_set 22 [s0, .val (.int x), s2, s3] (.int x :: st) h := e_go dX0_set_21 rfl rfl
theorem wX0_set_22 : E_ d mX0_set 22 ls st h = E_ d mX0_set 23 ls (.int (nI 3) :: st) h := e_iconst dX0_set_22 kiconst_3 rfl
theorem wX0_set_23 : E_ d mX0_set 23 ls (.int y :: .int x :: st) h = if x = y then E_ d mX0_set 26 ls st h else E_ d mX0_set 30 ls st h := e_ine dX0_set_23 rfl rfl
theorem wX0_set_26 : E_ d mX0_set 26 ls st h = E_ d mX0_set 27 ls (.long 1 :: st) h := e_go dX0_set_26 rfl rfl
theorem wX0_set_27 : E_ d mX0_set 27 ls st h = E_ d mX0_set 31 ls st h := e_gt dX0_set_27 rfl
theorem wX0_set_30 : E_ d mX0_set 30 ls st h = E_ d mX0_set 31 ls (.long 0 :: st) h := e_go dX0_set_30 rfl rfl
theorem wX0_set_31 : E_ d mX0_set 31 [s0, .val (.int x), s2, s3] st h = E_ d mX0_set 32 [s0, .val (.int x), s2, s3] (.int x :: st) h := e_go dX0_set_31 rfl rfl
theorem wX0_set_32 : E_ d mX0_set 32 ls (.int x :: st) h = if x = 0 then E_ d mX0_set 35 ls st h else E_ d mX0_set 41 ls st h := e_zne dX0_set_32 rfl rfl
theorem wX0_set_35 : E_ d mX0_set 35 ls st h = E_ d mX0_set 38 ls (.long (30) :: st) h := e_go dX0_set_35 rfl rfl
theorem wX0_set_38 : E_ d mX0_set 38 ls st h = E_ d mX0_set 66 ls st h := e_gt dX0_set_38 rfl
theorem wX0_set_41 : E_ d mX0_set 41 [s0, .val (.int x), s2, s3] st h = E_ d mX0_set 42 [s0, .val (.int x), s2, s3] (.int x :: st) h := e_go dX0_set_41 rfl rfl
theorem wX0_set_42 : E_ d mX0_set 42 ls st h = E_ d mX0_set 43 ls (.int (nI 1) :: st) h := e_iconst dX0_set_42 kiconst_1 rfl
theorem wX0_set_43 : E_ d mX0_set 43 ls (.int y :: .int x :: st) h = if x = y then E_ d mX0_set 46 ls st h else E_ d mX0_set 52 ls st h := e_ine dX0_set_43 rfl rfl
theorem wX0_set_46 : E_ d mX0_set 46 ls st h = E_ d mX0_set 49 ls (.long (20) :: st) h := e_go dX0_set_46 rfl rfl
theorem wX0_set_49 : E_ d mX0_set 49 ls st h = E_ d mX0_set 66 ls st h := e_gt dX0_set_49 rfl
theorem wX0_set_52 : E_ d mX0_set 52 [s0, .val (.int x), s2, s3] st h = E_ d mX0_set 53 [s0, .val (.int x), s2, s3] (.int x :: st) h := e_go dX0_set_52 rfl rfl
theorem wX0_set_53 : E_ d mX0_set 53 ls st h = E_ d mX0_set 54 ls (.int (nI 2) :: st) h := e_iconst dX0_set_53 kiconst_2 rfl
theorem wX0_set_54 : E_ d mX0_set 54 ls (.int y :: .int x :: st) h = if x = y then E_ d mX0_set 57 ls st h else E_ d mX0_set 63 ls st h := e_ine dX0_set_54 rfl rfl
theorem wX0_set_57 : E_ d mX0_set 57 ls st h = E_ d mX0_set 60 ls (.long (60) :: st) h := e_go dX0_set_57 rfl rfl
theorem wX0_set_60 : E_ d mX0_set 60 ls st h = E_ d mX0_set 66 ls st h := e_gt dX0_set_60 rfl
theorem wX0_set_63 : E_ d mX0_set 63 ls st h = E_ d mX0_set 66 ls (.long (200) :: st) h := e_go dX0_set_63 rfl rfl
theorem wX0_set_66 : E_ (d + 1) mX0_set 66 ls [.long u3, .long u2, .long u1] h = (C_ d mX0_in [.long u1, .long u2, .long u3] h).bind fun r => E_ (d + 1) mX0_set 69 ls (xpu r.1 []) r.2 := e_call dX0_set_66 rfl rfl
theorem wX0_set_69 : E_ d mX0_set 69 ls (.int x :: st) h = if x = 0 then E_ d mX0_set 72 ls st h else E_ d mX0_set 79 ls st h := e_zne dX0_set_69 rfl rfl
theorem wX0_set_72 : E_ d mX0_set 72 [.val (.ref a), s1, s2, s3] st h = E_ d mX0_set 73 [.val (.ref a), s1, s2, s3] (.ref a :: st) h := e_go dX0_set_72 rfl rfl
theorem wX0_set_73 : E_ d mX0_set 73 ls st h = E_ d mX0_set 75 ls (.int ((-3)) :: st) h := e_bipush dX0_set_73 kbipush_m3 rfl
theorem wX0_set_75 (ht : oT h a = 1) : E_ (d + 1) mX0_set 75 ls [.int x1, .ref a] h = (C_ d mX0_no [.ref a, .int x1] h).bind fun r => E_ (d + 1) mX0_set 78 ls (xpu r.1 []) r.2 := e_vir dX0_set_75 rfl rfl rfl rfl rfl rfl (Nat.le_of_ble_eq_true rfl) (Nat.le_of_ble_eq_true rfl) ht
theorem wX0_set_78 : E_ d mX0_set 78 ls [.int x] h = some (some (.int x), h) := e_rt dX0_set_78 rfl rfl
theorem wX0_set_79 : E_ d mX0_set 79 [.val (.ref a), s1, s2, s3] st h = E_ d mX0_set 80 [.val (.ref a), s1, s2, s3] (.ref a :: st) h := e_go dX0_set_79 rfl rfl
theorem wX0_set_80 (ht : oT h a = 1) : E_ d mX0_set 80 ls (.ref a :: st) h = E_ d mX0_set 83 ls (va_rf (oR h a 0) :: st) h := e_getR dX0_set_80 rfl rfl ht
theorem wX0_set_83 (ht : oT h a = 2) : E_ d mX0_set 83 ls (.ref a :: st) h = E_ d mX0_set 86 ls (va_rf (oR h a 0) :: st) h := e_getR dX0_set_83 rfl rfl ht
theorem wX0_set_86 : E_ d mX0_set 86 [s0, .val (.int x), s2, s3] st h = E_ d mX0_set 87 [s0, .val (.int x), s2, s3] (.int x :: st) h := e_go dX0_set_86 rfl rfl
theorem wX0_set_87 (ht : oT h a = 3) : E_ (d + 1) mX0_set 87 ls [.int x1, .ref a] h = (C_ d mX2_get [.ref a, .int x1] h).bind fun r => E_ (d + 1) mX0_set 90 ls (xpu r.1 []) r.2 := e_vir dX0_set_87 rfl rfl rfl rfl rfl rfl (Nat.le_of_ble_eq_true rfl) (Nat.le_of_ble_eq_true rfl) ht
theorem wX0_set_90 : E_ d mX0_set 90 [s0, s1, s2, s3] (.int x :: st) h = E_ d mX0_set 91 [s0, s1, xk s2, .val (.int x)] st h := e_go dX0_set_90 rfl rfl
theorem wX0_set_91 : E_ d mX0_set 91 [.val (.ref a), s1, s2, s3] st h = E_ d mX0_set 92 [.val (.ref a), s1, s2, s3] (.ref a :: st) h := e_go dX0_set_91 rfl rfl
theorem wX0_set_92 (ht : oT h a = 1) : E_ d mX0_set 92 ls (.ref a :: st) h = E_ d mX0_set 95 ls (va_rf (oR h a 0) :: st) h := e_getR dX0_set_92 rfl rfl ht
theorem wX0_set_95 (ht : oT h a = 2) : E_ d mX0_set 95 ls (.ref a :: st) h = E_ d mX0_set 98 ls (va_rf (oR h a 0) :: st) h := e_getR dX0_set_95 rfl rfl ht
theorem wX0_set_98 : E_ d mX0_set 98 [s0, .val (.int x), s2, s3] st h = E_ d mX0_set 99 [s0, .val (.int x), s2, s3] (.int x :: st) h := e_go dX0_set_98 rfl rfl
theorem wX0_set_99 : E_ d mX0_set 99 [s0, s1, .val (.int x), s3] st h = E_ d mX0_set 100 [s0, s1, .val (.int x), s3] (.int x :: st) h := e_go dX0_set_99 rfl rfl
theorem wX0_set_100 (ht : oT h a = 3) : E_ (d + 1) mX0_set 100 ls [.int x2, .int x1, .ref a] h = (C_ d mX2_put [.ref a, .int x1, .int x2] h).bind fun r => E_ (d + 1) mX0_set 103 ls (xpu r.1 []) r.2 := e_vir dX0_set_100 rfl rfl rfl rfl rfl rfl (Nat.le_of_ble_eq_true rfl) (Nat.le_of_ble_eq_true rfl) ht
theorem wX0_set_103 : E_ d mX0_set 103 [s0, s1, s2, .val (.int x)] st h = E_ d mX0_set 104 [s0, s1, s2, .val (.int x)] (.int x :: st) h := e_go dX0_set_103 rfl rfl
theorem wX0_set_104 : E_ d mX0_set 104 ls [.int x] h = some (some (.int x), h) := e_rt dX0_set_104 rfl rfl
/-! FootOut.chance -/
theorem wX0_chance_0 : E_ d mX0_chance 0 [.val (.ref a), s1] st h = E_ d mX0_chance 1 [.val (.ref a), s1] (.ref a :: st) h := e_go dX0_chance_0 rfl rfl
theorem wX0_chance_1 : E_ d mX0_chance 1 [s0, .val (.int x)] st h = E_ d mX0_chance 2 [s0, .val (.int x)] (.int x :: st) h := e_go dX0_chance_1 rfl rfl
theorem wX0_chance_2 (ht : oT h a = 1) : E_ (d + 1) mX0_chance 2 ls [.int x1, .ref a] h = (C_ d mX0_isCar [.ref a, .int x1] h).bind fun r => E_ (d + 1) mX0_chance 5 ls (xpu r.1 []) r.2 := e_vir dX0_chance_2 rfl rfl rfl rfl rfl rfl (Nat.le_of_ble_eq_true rfl) (Nat.le_of_ble_eq_true rfl) ht
theorem wX0_chance_5 : E_ d mX0_chance 5 ls (.int x :: st) h = if x = 0 then E_ d mX0_chance 30 ls st h else E_ d mX0_chance 8 ls st h := e_zeq dX0_chance_5 rfl rfl
theorem wX0_chance_8 : E_ d mX0_chance 8 [.val (.ref a), s1] st h = E_ d mX0_chance 9 [.val (.ref a), s1] (.ref a :: st) h := e_go dX0_chance_8 rfl rfl
theorem wX0_chance_9 : E_ d mX0_chance 9 [.val (.ref a), s1] st h = E_ d mX0_chance 10 [.val (.ref a), s1] (.ref a :: st) h := e_go dX0_chance_9 rfl rfl
theorem wX0_chance_10 (ht : oT h a = 1) : E_ d mX0_chance 10 ls (.ref a :: st) h = E_ d mX0_chance 13 ls (va_rf (oR h a 7) :: st) h := e_getR0 dX0_chance_10 rfl rfl ht
theorem wX0_chance_13 : E_ d mX0_chance 13 [.val (.ref a), s1] st h = E_ d mX0_chance 14 [.val (.ref a), s1] (.ref a :: st) h := e_go dX0_chance_13 rfl rfl
theorem wX0_chance_14 (ht : oT h a = 1) : E_ d mX0_chance 14 ls (.ref a :: st) h = E_ d mX0_chance 17 ls (va_rf (oR h a 0) :: st) h := e_getR dX0_chance_14 rfl rfl ht
theorem wX0_chance_17 (ht : oT h a = 2) : E_ d mX0_chance 17 ls (.ref a :: st) h = E_ d mX0_chance 20 ls (va_rf (oR h a 0) :: st) h := e_getR dX0_chance_17 rfl rfl ht
theorem wX0_chance_20 (ht : oT h a = 5) : E_ (d + 1) mX0_chance 20 ls [.ref r1, .ref a, .ref r2] h = (C_ d mX3_begins [.ref a, .ref r1] h).bind fun r => E_ (d + 1) mX0_chance 23 ls (xpu r.1 [.ref r2]) r.2 := e_vir dX0_chance_20 rfl rfl rfl rfl rfl rfl (Nat.le_of_ble_eq_true rfl) (Nat.le_of_ble_eq_true rfl) ht
theorem wX0_chance_23 : E_ d mX0_chance 23 [s0, .val (.int x)] st h = E_ d mX0_chance 24 [s0, .val (.int x)] (.int x :: st) h := e_go dX0_chance_23 rfl rfl
theorem wX0_chance_24 (ht : oT h a = 1) : E_ (d + 1) mX0_chance 24 ls [.int x1, .ref r1, .ref a] h = (C_ d mX0_chanceOf [.ref a, .ref r1, .int x1] h).bind fun r => E_ (d + 1) mX0_chance 27 ls (xpu r.1 []) r.2 := e_vir dX0_chance_24 rfl rfl rfl rfl rfl rfl (Nat.le_of_ble_eq_true rfl) (Nat.le_of_ble_eq_true rfl) ht
theorem wX0_chance_27 : E_ d mX0_chance 27 ls st h = E_ d mX0_chance 36 ls st h := e_gt dX0_chance_27 rfl
theorem wX0_chance_30 : E_ d mX0_chance 30 [.val (.ref a), s1] st h = E_ d mX0_chance 31 [.val (.ref a), s1] (.ref a :: st) h := e_go dX0_chance_30 rfl rfl
theorem wX0_chance_31 : E_ d mX0_chance 31 ls st h = E_ d mX0_chance 33 ls (.int ((-2)) :: st) h := e_bipush dX0_chance_31 kbipush_m2 rfl
theorem wX0_chance_33 (ht : oT h a = 1) : E_ (d + 1) mX0_chance 33 ls [.int x1, .ref a] h = (C_ d mX0_no [.ref a, .int x1] h).bind fun r => E_ (d + 1) mX0_chance 36 ls (xpu r.1 []) r.2 := e_vir dX0_chance_33 rfl rfl rfl rfl rfl rfl (Nat.le_of_ble_eq_true rfl) (Nat.le_of_ble_eq_true rfl) ht
theorem wX0_chance_36 : E_ d mX0_chance 36 ls [.int x] h = some (some (.int x), h) := e_rt dX0_chance_36 rfl rfl
/-! FootOut.has -/
theorem wX0_has_0 : E_ d mX0_has 0 [.val (.int x), s1] st h = E_ d mX0_has 1 [.val (.int x), s1] (.int x :: st) h := e_go dX0_has_0 rfl rfl
theorem wX0_has_1 : E_ d mX0_has 1 [s0, .val (.int x)] st h = E_ d mX0_has 2 [s0, .val (.int x)] (.int x :: st) h := e_go dX0_has_1 rfl rfl
theorem wX0_has_2 : E_ d mX0_has 2 ls (.int y :: .int x :: st) h = E_ d mX0_has 3 ls (.int (x >>> (y &&& 31)) :: st) h := e_go dX0_has_2 rfl rfl
theorem wX0_has_3 : E_ d mX0_has 3 ls st h = E_ d mX0_has 4 ls (.int (nI 1) :: st) h := e_iconst dX0_has_3 kiconst_1 rfl
theorem wX0_has_4 : E_ d mX0_has 4 ls (.int y :: .int x :: st) h = E_ d mX0_has 5 ls (.int (x &&& y) :: st) h := e_go dX0_has_4 rfl rfl
theorem wX0_has_5 : E_ d mX0_has 5 ls st h = E_ d mX0_has 6 ls (.int (nI 1) :: st) h := e_iconst dX0_has_5 kiconst_1 rfl
theorem wX0_has_6 : E_ d mX0_has 6 ls (.int y :: .int x :: st) h = if x = y then E_ d mX0_has 9 ls st h else E_ d mX0_has 13 ls st h := e_ine dX0_has_6 rfl rfl
theorem wX0_has_9 : E_ d mX0_has 9 ls st h = E_ d mX0_has 10 ls (.int (nI 1) :: st) h := e_iconst dX0_has_9 kiconst_1 rfl
theorem wX0_has_10 : E_ d mX0_has 10 ls st h = E_ d mX0_has 14 ls st h := e_gt dX0_has_10 rfl
theorem wX0_has_13 : E_ d mX0_has 13 ls st h = E_ d mX0_has 14 ls (.int (nI 0) :: st) h := e_iconst dX0_has_13 kiconst_0 rfl
theorem wX0_has_14 (hx : x = 0 ∨ x = 1) : E_ d mX0_has 14 ls [.int x] h = some (some (.int x), h) := e_rtZ dX0_has_14 rfl hx
/-! FootOut.chanceOf -/
theorem wX0_chanceOf_0 : E_ d mX0_chanceOf 0 ls st h = E_ d mX0_chanceOf 1 ls (.int (nI 0) :: st) h := e_iconst dX0_chanceOf_0 kiconst_0 rfl
theorem wX0_chanceOf_1 : E_ d mX0_chanceOf 1 [s0, s1, s2, s3] (.int x :: st) h = E_ d mX0_chanceOf 2 [s0, s1, xk s2, .val (.int x)] st h := e_go dX0_chanceOf_1 rfl rfl
theorem wX0_chanceOf_2 : E_ d mX0_chanceOf 2 [s0, s1, s2, .val (.int x)] st h = E_ d mX0_chanceOf 3 [s0, s1, s2, .val (.int x)] (.int x :: st) h := e_go dX0_chanceOf_2 rfl rfl
theorem wX0_chanceOf_3 : E_ d mX0_chanceOf 3 [.val (.ref a), s1, s2, s3] st h = E_ d mX0_chanceOf 4 [.val (.ref a), s1, s2, s3] (.ref a :: st) h := e_go dX0_chanceOf_3 rfl rfl
theorem wX0_chanceOf_4 (ht : oT h a = 1) : E_ d mX0_chanceOf 4 ls (.ref a :: st) h = E_ d mX0_chanceOf 7 ls (va_rf (oR h a 0) :: st) h := e_getR dX0_chanceOf_4 rfl rfl ht
theorem wX0_chanceOf_7 (ht : oT h a = 2) : E_ d mX0_chanceOf 7 ls (.ref a :: st) h = E_ d mX0_chanceOf 10 ls (va_rf (oR h a 1) :: st) h := e_getR dX0_chanceOf_7 rfl rfl ht
theorem wX0_chanceOf_10 (ht : oT h a = 4) : E_ (d + 1) mX0_chanceOf 10 ls [.ref a, .int x1] h = (C_ d mJ2_size [.ref a] h).bind fun r => E_ (d + 1) mX0_chanceOf 13 ls (xpu r.1 [.int x1]) r.2 := e_vir dX0_chanceOf_10 rfl rfl rfl rfl rfl rfl (Nat.le_of_ble_eq_true rfl) (Nat.le_of_ble_eq_true rfl) ht
theorem wX0_chanceOf_13 : E_ d mX0_chanceOf 13 ls (.int y :: .int x :: st) h = if x < y then E_ d mX0_chanceOf 16 ls st h else E_ d mX0_chanceOf 65 ls st h := e_ige dX0_chanceOf_13 rfl rfl
theorem wX0_chanceOf_16 : E_ d mX0_chanceOf 16 [.val (.ref a), s1, s2, s3] st h = E_ d mX0_chanceOf 17 [.val (.ref a), s1, s2, s3] (.ref a :: st) h := e_go dX0_chanceOf_16 rfl rfl
theorem wX0_chanceOf_17 (ht : oT h a = 1) : E_ d mX0_chanceOf 17 ls (.ref a :: st) h = E_ d mX0_chanceOf 20 ls (va_rf (oR h a 0) :: st) h := e_getR dX0_chanceOf_17 rfl rfl ht
theorem wX0_chanceOf_20 (ht : oT h a = 2) : E_ d mX0_chanceOf 20 ls (.ref a :: st) h = E_ d mX0_chanceOf 23 ls (va_rf (oR h a 1) :: st) h := e_getR dX0_chanceOf_20 rfl rfl ht
theorem wX0_chanceOf_23 : E_ d mX0_chanceOf 23 [s0, s1, s2, .val (.int x)] st h = E_ d mX0_chanceOf 24 [s0, s1, s2, .val (.int x)] (.int x :: st) h := e_go dX0_chanceOf_23 rfl rfl
theorem wX0_chanceOf_24 (ht : oT h a = 4) : E_ (d + 1) mX0_chanceOf 24 ls [.int x1, .ref a] h = (C_ d mJ2_get [.ref a, .int x1] h).bind fun r => E_ (d + 1) mX0_chanceOf 27 ls (xpu r.1 []) r.2 := e_vir dX0_chanceOf_24 rfl rfl rfl rfl rfl rfl (Nat.le_of_ble_eq_true rfl) (Nat.le_of_ble_eq_true rfl) ht
theorem wX0_chanceOf_27 (ht : oT h a = 18) : E_ d mX0_chanceOf 27 ls (.ref a :: st) h = E_ d mX0_chanceOf 30 ls (.ref a :: st) h := e_cast dX0_chanceOf_27 rfl rfl ht
theorem wX0_chanceOf_27n : E_ d mX0_chanceOf 27 ls (.null :: st) h = E_ d mX0_chanceOf 30 ls (.null :: st) h := e_go dX0_chanceOf_27 rfl rfl
theorem wX0_chanceOf_30 (ht : oT h a = 18) : E_ d mX0_chanceOf 30 ls (.ref a :: st) h = E_ d mX0_chanceOf 33 ls (va_rf (oR h a 1) :: st) h := e_getR0 dX0_chanceOf_30 rfl rfl ht
theorem wX0_chanceOf_33 : E_ d mX0_chanceOf 33 [s0, .val (.ref a), s2, s3] st h = E_ d mX0_chanceOf 34 [s0, .val (.ref a), s2, s3] (.ref a :: st) h := e_go dX0_chanceOf_33 rfl rfl
theorem wX0_chanceOf_34 : E_ d mX0_chanceOf 34 [s0, s1, .val (.int x), s3] st h = E_ d mX0_chanceOf 35 [s0, s1, .val (.int x), s3] (.int x :: st) h := e_go dX0_chanceOf_34 rfl rfl
theorem wX0_chanceOf_35t10 (ht : oT h a = 10) : E_ (d + 1) mX0_chanceOf 35 ls [.int x1, .ref r1, .ref a] h = (C_ d mX9_is [.ref a, .ref r1, .int x1] h).bind fun r => E_ (d + 1) mX0_chanceOf 38 ls (xpu r.1 []) r.2 := e_vir dX0_chanceOf_35 rfl rfl rfl rfl rfl rfl (Nat.le_of_ble_eq_true rfl) (Nat.le_of_ble_eq_true rfl) ht
theorem wX0_chanceOf_35t11 (ht : oT h a = 11) : E_ (d + 1) mX0_chanceOf 35 ls [.int x1, .ref r1, .ref a] h = (C_ d mX10_is [.ref a, .ref r1, .int x1] h).bind fun r => E_ (d + 1) mX0_chanceOf 38 ls (xpu r.1 []) r.2 := e_vir dX0_chanceOf_35 rfl rfl rfl rfl rfl rfl (Nat.le_of_ble_eq_true rfl) (Nat.le_of_ble_eq_true rfl) ht
theorem wX0_chanceOf_35t12 (ht : oT h a = 12) : E_ (d + 1) mX0_chanceOf 35 ls [.int x1, .ref r1, .ref a] h = (C_ d mX11_is [.ref a, .ref r1, .int x1] h).bind fun r => E_ (d + 1) mX0_chanceOf 38 ls (xpu r.1 []) r.2 := e_vir dX0_chanceOf_35 rfl rfl rfl rfl rfl rfl (Nat.le_of_ble_eq_true rfl) (Nat.le_of_ble_eq_true rfl) ht
theorem wX0_chanceOf_35t13 (ht : oT h a = 13) : E_ (d + 1) mX0_chanceOf 35 ls [.int x1, .ref r1, .ref a] h = (C_ d mX11_is [.ref a, .ref r1, .int x1] h).bind fun r => E_ (d + 1) mX0_chanceOf 38 ls (xpu r.1 []) r.2 := e_vir dX0_chanceOf_35 rfl rfl rfl rfl rfl rfl (Nat.le_of_ble_eq_true rfl) (Nat.le_of_ble_eq_true rfl) ht
theorem wX0_chanceOf_35t14 (ht : oT h a = 14) : E_ (d + 1) mX0_chanceOf 35 ls [.int x1, .ref r1, .ref a] h = (C_ d mX11_is [.ref a, .ref r1, .int x1] h).bind fun r => E_ (d + 1) mX0_chanceOf 38 ls (xpu r.1 []) r.2 := e_vir dX0_chanceOf_35 rfl rfl rfl rfl rfl rfl (Nat.le_of_ble_eq_true rfl) (Nat.le_of_ble_eq_true rfl) ht
theorem wX0_chanceOf_35t15 (ht : oT h a = 15) : E_ (d + 1) mX0_chanceOf 35 ls [.int x1, .ref r1, .ref a] h = (C_ d mX15_is [.ref a, .ref r1, .int x1] h).bind fun r => E_ (d + 1) mX0_chanceOf 38 ls (xpu r.1 []) r.2 := e_vir dX0_chanceOf_35 rfl rfl rfl rfl rfl rfl (Nat.le_of_ble_eq_true rfl) (Nat.le_of_ble_eq_true rfl) ht
theorem wX0_chanceOf_35t16 (ht : oT h a = 16) : E_ (d + 1) mX0_chanceOf 35 ls [.int x1, .ref r1, .ref a] h = (C_ d mX16_is [.ref a, .ref r1, .int x1] h).bind fun r => E_ (d + 1) mX0_chanceOf 38 ls (xpu r.1 []) r.2 := e_vir dX0_chanceOf_35 rfl rfl rfl rfl rfl rfl (Nat.le_of_ble_eq_true rfl) (Nat.le_of_ble_eq_true rfl) ht
theorem wX0_chanceOf_35t17 (ht : oT h a = 17) : E_ (d + 1) mX0_chanceOf 35 ls [.int x1, .ref r1, .ref a] h = (C_ d mX17_is [.ref a, .ref r1, .int x1] h).bind fun r => E_ (d + 1) mX0_chanceOf 38 ls (xpu r.1 []) r.2 := e_vir dX0_chanceOf_35 rfl rfl rfl rfl rfl rfl (Nat.le_of_ble_eq_true rfl) (Nat.le_of_ble_eq_true rfl) ht
theorem wX0_chanceOf_38 : E_ d mX0_chanceOf 38 ls (.int x :: st) h = if x = 0 then E_ d mX0_chanceOf 59 ls st h else E_ d mX0_chanceOf 41 ls st h := e_zeq dX0_chanceOf_38 rfl rfl
theorem wX0_chanceOf_41 : E_ d mX0_chanceOf 41 [.val (.ref a), s1, s2, s3] st h = E_ d mX0_chanceOf 42 [.val (.ref a), s1, s2, s3] (.ref a :: st) h := e_go dX0_chanceOf_41 rfl rfl
theorem wX0_chanceOf_42 (ht : oT h a = 1) : E_ d mX0_chanceOf 42 ls (.ref a :: st) h = E_ d mX0_chanceOf 45 ls (va_rf (oR h a 0) :: st) h := e_getR dX0_chanceOf_42 rfl rfl ht
theorem wX0_chanceOf_45 (ht : oT h a = 2) : E_ d mX0_chanceOf 45 ls (.ref a :: st) h = E_ d mX0_chanceOf 48 ls (va_rf (oR h a 1) :: st) h := e_getR dX0_chanceOf_45 rfl rfl ht
theorem wX0_chanceOf_48 : E_ d mX0_chanceOf 48 [s0, s1, s2, .val (.int x)] st h = E_ d mX0_chanceOf 49 [s0, s1, s2, .val (.int x)] (.int x :: st) h := e_go dX0_chanceOf_48 rfl rfl
theorem wX0_chanceOf_49 (ht : oT h a = 4) : E_ (d + 1) mX0_chanceOf 49 ls [.int x1, .ref a] h = (C_ d mJ2_get [.ref a, .int x1] h).bind fun r => E_ (d + 1) mX0_chanceOf 52 ls (xpu r.1 []) r.2 := e_vir dX0_chanceOf_49 rfl rfl rfl rfl rfl rfl (Nat.le_of_ble_eq_true rfl) (Nat.le_of_ble_eq_true rfl) ht
theorem wX0_chanceOf_52 (ht : oT h a = 18) : E_ d mX0_chanceOf 52 ls (.ref a :: st) h = E_ d mX0_chanceOf 55 ls (.ref a :: st) h := e_cast dX0_chanceOf_52 rfl rfl ht
theorem wX0_chanceOf_52n : E_ d mX0_chanceOf 52 ls (.null :: st) h = E_ d mX0_chanceOf 55 ls (.null :: st) h := e_go dX0_chanceOf_52 rfl rfl
theorem wX0_chanceOf_55 (ht : oT h a = 18) : E_ d mX0_chanceOf 55 ls (.ref a :: st) h = E_ d mX0_chanceOf 58 ls (.int (oI h a 0) :: st) h := e_getI0 dX0_chanceOf_55 rfl rfl ht
theorem wX0_chanceOf_58 : E_ d mX0_chanceOf 58 ls [.int x] h = some (some (.int x), h) := e_rt dX0_chanceOf_58 rfl rfl
theorem wX0_chanceOf_59 : E_ d mX0_chanceOf 59 [s0, s1, s2, .val (.int x)] st h = E_ d mX0_chanceOf 62 [s0, s1, xk s2, .val (.int (x + nI 1))] st h := by rw [← kiinc_1]; exact e_go dX0_chanceOf_59 rfl rfl
theorem wX0_chanceOf_62 : E_ d mX0_chanceOf 62 ls st h = E_ d mX0_chanceOf 2 ls st h := e_gt dX0_chanceOf_62 rfl
theorem wX0_chanceOf_65 : E_ d mX0_chanceOf 65 ls st h = E_ d mX0_chanceOf 66 ls (.int (nI 0) :: st) h := e_iconst dX0_chanceOf_65 kiconst_0 rfl
theorem wX0_chanceOf_66 : E_ d mX0_chanceOf 66 ls [.int x] h = some (some (.int x), h) := e_rt dX0_chanceOf_66 rfl rfl
/-! FootOut.can -/
theorem wX0_can_0 : E_ d mX0_can 0 [.val (.ref a), s1] st h = E_ d mX0_can 1 [.val (.ref a), s1] (.ref a :: st) h := e_go dX0_can_0 rfl rfl
theorem wX0_can_1 : E_ d mX0_can 1 [s0, .val (.int x)] st h = E_ d mX0_can 2 [s0, .val (.int x)] (.int x :: st) h := e_go dX0_can_1 rfl rfl
theorem wX0_can_2 (ht : oT h a = 1) : E_ (d + 1) mX0_can 2 ls [.int x1, .ref a] h = (C_ d mX0_isCar [.ref a, .int x1] h).bind fun r => E_ (d + 1) mX0_can 5 ls (xpu r.1 []) r.2 := e_vir dX0_can_2 rfl rfl rfl rfl rfl rfl (Nat.le_of_ble_eq_true rfl) (Nat.le_of_ble_eq_true rfl) ht
theorem wX0_can_5 : E_ d mX0_can 5 ls (.int x :: st) h = if x = 0 then E_ d mX0_can 37 ls st h else E_ d mX0_can 8 ls st h := e_zeq dX0_can_5 rfl rfl
theorem wX0_can_8 : E_ d mX0_can 8 [.val (.ref a), s1] st h = E_ d mX0_can 9 [.val (.ref a), s1] (.ref a :: st) h := e_go dX0_can_8 rfl rfl
theorem wX0_can_9 (ht : oT h a = 1) : E_ d mX0_can 9 ls (.ref a :: st) h = E_ d mX0_can 12 ls (va_rf (oR h a 7) :: st) h := e_getR0 dX0_can_9 rfl rfl ht
theorem wX0_can_12 : E_ d mX0_can 12 [.val (.ref a), s1] st h = E_ d mX0_can 13 [.val (.ref a), s1] (.ref a :: st) h := e_go dX0_can_12 rfl rfl
theorem wX0_can_13 (ht : oT h a = 1) : E_ d mX0_can 13 ls (.ref a :: st) h = E_ d mX0_can 16 ls (va_rf (oR h a 0) :: st) h := e_getR dX0_can_13 rfl rfl ht
theorem wX0_can_16 (ht : oT h a = 2) : E_ d mX0_can 16 ls (.ref a :: st) h = E_ d mX0_can 19 ls (va_rf (oR h a 0) :: st) h := e_getR dX0_can_16 rfl rfl ht
theorem wX0_can_19 (ht : oT h a = 5) : E_ (d + 1) mX0_can 19 ls [.ref r1, .ref a] h = (C_ d mX3_begins [.ref a, .ref r1] h).bind fun r => E_ (d + 1) mX0_can 22 ls (xpu r.1 []) r.2 := e_vir dX0_can_19 rfl rfl rfl rfl rfl rfl (Nat.le_of_ble_eq_true rfl) (Nat.le_of_ble_eq_true rfl) ht
theorem wX0_can_22 : E_ d mX0_can 22 [s0, .val (.int x)] st h = E_ d mX0_can 23 [s0, .val (.int x)] (.int x :: st) h := e_go dX0_can_22 rfl rfl
theorem wX0_can_23 (ht : oT h a = 5) : E_ (d + 1) mX0_can 23 ls [.int x1, .ref a] h = (C_ d mX3_can [.ref a, .int x1] h).bind fun r => E_ (d + 1) mX0_can 26 ls (xpu r.1 []) r.2 := e_vir dX0_can_23 rfl rfl rfl rfl rfl rfl (Nat.le_of_ble_eq_true rfl) (Nat.le_of_ble_eq_true rfl) ht
theorem wX0_can_26 : E_ d mX0_can 26 ls (.int x :: st) h = if x = 0 then E_ d mX0_can 33 ls st h else E_ d mX0_can 29 ls st h := e_zeq dX0_can_26 rfl rfl
theorem wX0_can_29 : E_ d mX0_can 29 ls st h = E_ d mX0_can 30 ls (.int (nI 1) :: st) h := e_iconst dX0_can_29 kiconst_1 rfl
theorem wX0_can_30 : E_ d mX0_can 30 ls st h = E_ d mX0_can 43 ls st h := e_gt dX0_can_30 rfl
theorem wX0_can_33 : E_ d mX0_can 33 ls st h = E_ d mX0_can 34 ls (.int (nI 0) :: st) h := e_iconst dX0_can_33 kiconst_0 rfl
theorem wX0_can_34 : E_ d mX0_can 34 ls st h = E_ d mX0_can 43 ls st h := e_gt dX0_can_34 rfl
theorem wX0_can_37 : E_ d mX0_can 37 [.val (.ref a), s1] st h = E_ d mX0_can 38 [.val (.ref a), s1] (.ref a :: st) h := e_go dX0_can_37 rfl rfl
theorem wX0_can_38 : E_ d mX0_can 38 ls st h = E_ d mX0_can 40 ls (.int ((-2)) :: st) h := e_bipush dX0_can_38 kbipush_m2 rfl
theorem wX0_can_40 (ht : oT h a = 1) : E_ (d + 1) mX0_can 40 ls [.int x1, .ref a] h = (C_ d mX0_no [.ref a, .int x1] h).bind fun r => E_ (d + 1) mX0_can 43 ls (xpu r.1 []) r.2 := e_vir dX0_can_40 rfl rfl rfl rfl rfl rfl (Nat.le_of_ble_eq_true rfl) (Nat.le_of_ble_eq_true rfl) ht
theorem wX0_can_43 : E_ d mX0_can 43 ls [.int x] h = some (some (.int x), h) := e_rt dX0_can_43 rfl rfl
/-! FootOut.run -/
theorem wX0_run_0 : E_ d mX0_run 0 [s0, s1, .val (.int x), s3] st h = E_ d mX0_run 1 [s0, s1, .val (.int x), s3] (.int x :: st) h := e_go dX0_run_0 rfl rfl
theorem wX0_run_1 : E_ d mX0_run 1 ls (.int x :: st) h = E_ d mX0_run 2 ls (.long x.toInt64 :: st) h := e_go dX0_run_1 rfl rfl
theorem wX0_run_2 : E_ d mX0_run 2 ls st h = E_ d mX0_run 3 ls (.long 0 :: st) h := e_go dX0_run_2 rfl rfl
theorem wX0_run_3 : E_ d mX0_run 3 ls st h = E_ d mX0_run 6 ls (.long (5) :: st) h := e_go dX0_run_3 rfl rfl
theorem wX0_run_6 : E_ (d + 1) mX0_run 6 ls [.long u3, .long u2, .long u1] h = (C_ d mX0_in [.long u1, .long u2, .long u3] h).bind fun r => E_ (d + 1) mX0_run 9 ls (xpu r.1 []) r.2 := e_call dX0_run_6 rfl rfl
theorem wX0_run_9 : E_ d mX0_run 9 ls (.int x :: st) h = if x = 0 then E_ d mX0_run 12 ls st h else E_ d mX0_run 19 ls st h := e_zne dX0_run_9 rfl rfl
theorem wX0_run_12 : E_ d mX0_run 12 [.val (.ref a), s1, s2, s3] st h = E_ d mX0_run 13 [.val (.ref a), s1, s2, s3] (.ref a :: st) h := e_go dX0_run_12 rfl rfl
theorem wX0_run_13 : E_ d mX0_run 13 ls st h = E_ d mX0_run 15 ls (.int ((-2)) :: st) h := e_bipush dX0_run_13 kbipush_m2 rfl
theorem wX0_run_15 (ht : oT h a = 1) : E_ (d + 1) mX0_run 15 ls [.int x1, .ref a] h = (C_ d mX0_no [.ref a, .int x1] h).bind fun r => E_ (d + 1) mX0_run 18 ls (xpu r.1 []) r.2 := e_vir dX0_run_15 rfl rfl rfl rfl rfl rfl (Nat.le_of_ble_eq_true rfl) (Nat.le_of_ble_eq_true rfl) ht
theorem wX0_run_18 : E_ d mX0_run 18 ls [.int x] h = some (some (.int x), h) := e_rt dX0_run_18 rfl rfl
theorem wX0_run_19 : E_ d mX0_run 19 [.val (.ref a), s1, s2, s3] st h = E_ d mX0_run 20 [.val (.ref a), s1, s2, s3] (.ref a :: st) h := e_go dX0_run_19 rfl rfl
theorem wX0_run_20 : E_ d mX0_run 20 [s0, .val (.int x), s2, s3] st h = E_ d mX0_run 21 [s0, .val (.int x), s2, s3] (.int x :: st) h := e_go dX0_run_20 rfl rfl
theorem wX0_run_21 : E_ d mX0_run 21 ls st h = E_ d mX0_run 23 ls (.int (nI 99) :: st) h := e_bipush dX0_run_21 kbipush_99 rfl
theorem wX0_run_23 (ht : oT h a = 1) : E_ (d + 1) mX0_run 23 ls [.int x2, .int x1, .ref a] h = (C_ d mX0_runs [.ref a, .int x1, .int x2] h).bind fun r => E_ (d + 1) mX0_run 26 ls (xpu r.1 []) r.2 := e_vir dX0_run_23 rfl rfl rfl rfl rfl rfl (Nat.le_of_ble_eq_true rfl) (Nat.le_of_ble_eq_true rfl) ht
theorem wX0_run_26 : E_ d mX0_run 26 [s0, s1, s2, s3] (.ref a :: st) h = E_ d mX0_run 27 [s0, s1, xk s2, .val (.ref a)] st h := e_go dX0_run_26 rfl rfl
theorem wX0_run_27 : E_ d mX0_run 27 [s0, s1, .val (.int x), s3] st h = E_ d mX0_run 28 [s0, s1, .val (.int x), s3] (.int x :: st) h := e_go dX0_run_27 rfl rfl
theorem wX0_run_28d (hx : x.toInt < 0 ∨ 4 < x.toInt) : E_ d mX0_run 28 ls (.int x :: st) h = E_ d mX0_run 90 ls st h := e_swO dX0_run_28 rfl hx
theorem wX0_run_28c0 : E_ d mX0_run 28 ls (.int (nI 0) :: st) h = E_ d mX0_run 64 ls st h := e_swI (n := 0) dX0_run_28 (by decide) (by decide) rfl rfl
theorem wX0_run_28c1 : E_ d mX0_run 28 ls (.int (nI 1) :: st) h = E_ d mX0_run 69 ls st h := e_swI (n := 1) dX0_run_28 (by decide) (by decide) rfl rfl
theorem wX0_run_28c2 : E_ d mX0_run 28 ls (.int (nI 2) :: st) h = E_ d mX0_run 74 ls st h := e_swI (n := 2) dX0_run_28 (by decide) (by decide) rfl rfl
theorem wX0_run_28c3 : E_ d mX0_run 28 ls (.int (nI 3) :: st) h = E_ d mX0_run 79 ls st h := e_swI (n := 3) dX0_run_28 (by decide) (by decide) rfl rfl
theorem wX0_run_28c4 : E_ d mX0_run 28 ls (.int (nI 4) :: st) h = E_ d mX0_run 84 ls st h := e_swI (n := 4) dX0_run_28 (by decide) (by decide) rfl rfl
theorem wX0_run_64 : E_ d mX0_run 64 [s0, s1, s2, .val (.ref a)] st h = E_ d mX0_run 65 [s0, s1, s2, .val (.ref a)] (.ref a :: st) h := e_go dX0_run_64 rfl rfl
theorem wX0_run_65 (ht : oT h a = 5) : E_ d mX0_run 65 ls (.ref a :: st) h = E_ d mX0_run 68 ls (.int (oI h a 10) :: st) h := e_getI dX0_run_65 rfl rfl ht
theorem wX0_run_68 : E_ d mX0_run 68 ls [.int x] h = some (some (.int x), h) := e_rt dX0_run_68 rfl rfl
theorem wX0_run_69 : E_ d mX0_run 69 [s0, s1, s2, .val (.ref a)] st h = E_ d mX0_run 70 [s0, s1, s2, .val (.ref a)] (.ref a :: st) h := e_go dX0_run_69 rfl rfl
theorem wX0_run_70 (ht : oT h a = 5) : E_ d mX0_run 70 ls (.ref a :: st) h = E_ d mX0_run 73 ls (.int (oI h a 9) :: st) h := e_getI dX0_run_70 rfl rfl ht
theorem wX0_run_73 : E_ d mX0_run 73 ls [.int x] h = some (some (.int x), h) := e_rt dX0_run_73 rfl rfl
theorem wX0_run_74 : E_ d mX0_run 74 [s0, s1, s2, .val (.ref a)] st h = E_ d mX0_run 75 [s0, s1, s2, .val (.ref a)] (.ref a :: st) h := e_go dX0_run_74 rfl rfl
theorem wX0_run_75 (ht : oT h a = 5) : E_ d mX0_run 75 ls (.ref a :: st) h = E_ d mX0_run 78 ls (.int (oI h a 12) :: st) h := e_getI dX0_run_75 rfl rfl ht
theorem wX0_run_78 : E_ d mX0_run 78 ls [.int x] h = some (some (.int x), h) := e_rt dX0_run_78 rfl rfl
theorem wX0_run_79 : E_ d mX0_run 79 [s0, s1, s2, .val (.ref a)] st h = E_ d mX0_run 80 [s0, s1, s2, .val (.ref a)] (.ref a :: st) h := e_go dX0_run_79 rfl rfl
theorem wX0_run_80 (ht : oT h a = 5) : E_ d mX0_run 80 ls (.ref a :: st) h = E_ d mX0_run 83 ls (.int (oI h a 11) :: st) h := e_getI dX0_run_80 rfl rfl ht
theorem wX0_run_83 : E_ d mX0_run 83 ls [.int x] h = some (some (.int x), h) := e_rt dX0_run_83 rfl rfl
theorem wX0_run_84 : E_ d mX0_run 84 [.val (.ref a), s1, s2, s3] st h = E_ d mX0_run 85 [.val (.ref a), s1, s2, s3] (.ref a :: st) h := e_go dX0_run_84 rfl rfl
theorem wX0_run_85 : E_ d mX0_run 85 [s0, s1, s2, .val (.ref a)] st h = E_ d mX0_run 86 [s0, s1, s2, .val (.ref a)] (.ref a :: st) h := e_go dX0_run_85 rfl rfl
theorem wX0_run_86 (ht : oT h a = 1) : E_ (d + 1) mX0_run 86 ls [.ref r1, .ref a] h = (C_ d mX0_stopped [.ref a, .ref r1] h).bind fun r => E_ (d + 1) mX0_run 89 ls (xpu r.1 []) r.2 := e_vir dX0_run_86 rfl rfl rfl rfl rfl rfl (Nat.le_of_ble_eq_true rfl) (Nat.le_of_ble_eq_true rfl) ht
theorem wX0_run_89 : E_ d mX0_run 89 ls [.int x] h = some (some (.int x), h) := e_rt dX0_run_89 rfl rfl
theorem wX0_run_90 : E_ d mX0_run 90 [s0, s1, s2, .val (.ref a)] st h = E_ d mX0_run 91 [s0, s1, s2, .val (.ref a)] (.ref a :: st) h := e_go dX0_run_90 rfl rfl
theorem wX0_run_91 (ht : oT h a = 5) : E_ d mX0_run 91 ls (.ref a :: st) h = E_ d mX0_run 94 ls (.int (oI h a 8) :: st) h := e_getI dX0_run_91 rfl rfl ht
theorem wX0_run_94 : E_ d mX0_run 94 ls [.int x] h = some (some (.int x), h) := e_rt dX0_run_94 rfl rfl
/-! FootOut.runs -/
theorem wX0_runs_0 : E_ d mX0_runs 0 [.val (.ref a), s1, s2] st h = E_ d mX0_runs 1 [.val (.ref a), s1, s2] (.ref a :: st) h := e_go dX0_runs_0 rfl rfl
theorem wX0_runs_1 (ht : oT h a = 1) : E_ d mX0_runs 1 ls (.ref a :: st) h = E_ d mX0_runs 4 ls (va_rf (oR h a 7) :: st) h := e_getR0 dX0_runs_1 rfl rfl ht
theorem wX0_runs_4 : E_ d mX0_runs 4 [.val (.ref a), s1, s2] st h = E_ d mX0_runs 5 [.val (.ref a), s1, s2] (.ref a :: st) h := e_go dX0_runs_4 rfl rfl
theorem wX0_runs_5 (ht : oT h a = 1) : E_ d mX0_runs 5 ls (.ref a :: st) h = E_ d mX0_runs 8 ls (va_rf (oR h a 0) :: st) h := e_getR dX0_runs_5 rfl rfl ht
theorem wX0_runs_8 (ht : oT h a = 2) : E_ d mX0_runs 8 ls (.ref a :: st) h = E_ d mX0_runs 11 ls (va_rf (oR h a 0) :: st) h := e_getR dX0_runs_8 rfl rfl ht
theorem wX0_runs_11 (ht : oT h a = 5) : E_ (d + 1) mX0_runs 11 ls [.ref r1, .ref a] h = (C_ d mX3_begins [.ref a, .ref r1] h).bind fun r => E_ (d + 1) mX0_runs 14 ls (xpu r.1 []) r.2 := e_vir dX0_runs_11 rfl rfl rfl rfl rfl rfl (Nat.le_of_ble_eq_true rfl) (Nat.le_of_ble_eq_true rfl) ht
theorem wX0_runs_14 : E_ d mX0_runs 14 ls (.ref a :: st) h = E_ d mX0_runs 15 ls st h := e_go dX0_runs_14 rfl rfl
theorem wX0_runs_15 : E_ d mX0_runs 15 [.val (.ref a), s1, s2] st h = E_ d mX0_runs 16 [.val (.ref a), s1, s2] (.ref a :: st) h := e_go dX0_runs_15 rfl rfl
theorem wX0_runs_16 : E_ d mX0_runs 16 [s0, .val (.int x), s2] st h = E_ d mX0_runs 17 [s0, .val (.int x), s2] (.int x :: st) h := e_go dX0_runs_16 rfl rfl
theorem wX0_runs_17 (ht : oT h a = 1) : E_ d mX0_runs 17 ls (.int x :: .ref a :: st) h = E_ d mX0_runs 20 ls st (pI h a (va_up (oI h a) 8 x)) := e_putI dX0_runs_17 rfl rfl ht
theorem wX0_runs_20 : E_ d mX0_runs 20 [.val (.ref a), s1, s2] st h = E_ d mX0_runs 21 [.val (.ref a), s1, s2] (.ref a :: st) h := e_go dX0_runs_20 rfl rfl
theorem wX0_runs_21 (ht : oT h a = 1) : E_ d mX0_runs 21 ls (.ref a :: st) h = E_ d mX0_runs 24 ls (va_rf (oR h a 7) :: st) h := e_getR0 dX0_runs_21 rfl rfl ht
theorem wX0_runs_24 (ht : oT h a = 5) : E_ d mX0_runs 24 ls (.ref a :: st) h = E_ d mX0_runs 27 ls (.int (oI h a 10) :: st) h := e_getI dX0_runs_24 rfl rfl ht
theorem wX0_runs_27 : E_ d mX0_runs 27 ls (.int x :: st) h = if x = 0 then E_ d mX0_runs 30 ls st h else E_ d mX0_runs 52 ls st h := e_zne dX0_runs_27 rfl rfl
theorem wX0_runs_30 : E_ d mX0_runs 30 [.val (.ref a), s1, s2] st h = E_ d mX0_runs 31 [.val (.ref a), s1, s2] (.ref a :: st) h := e_go dX0_runs_30 rfl rfl
theorem wX0_runs_31 (ht : oT h a = 1) : E_ d mX0_runs 31 ls (.ref a :: st) h = E_ d mX0_runs 34 ls (va_rf (oR h a 7) :: st) h := e_getR0 dX0_runs_31 rfl rfl ht
theorem wX0_runs_34 (ht : oT h a = 5) : E_ d mX0_runs 34 ls (.ref a :: st) h = E_ d mX0_runs 37 ls (.int (oI h a 9) :: st) h := e_getI dX0_runs_34 rfl rfl ht
theorem wX0_runs_37 : E_ d mX0_runs 37 [s0, s1, .val (.int x)] st h = E_ d mX0_runs 38 [s0, s1, .val (.int x)] (.int x :: st) h := e_go dX0_runs_37 rfl rfl
theorem wX0_runs_38 : E_ d mX0_runs 38 ls (.int y :: .int x :: st) h = if x < y then E_ d mX0_runs 41 ls st h else E_ d mX0_runs 52 ls st h := e_ige dX0_runs_38 rfl rfl
theorem wX0_runs_41 : E_ d mX0_runs 41 [.val (.ref a), s1, s2] st h = E_ d mX0_runs 42 [.val (.ref a), s1, s2] (.ref a :: st) h := e_go dX0_runs_41 rfl rfl
theorem wX0_runs_42 : E_ d mX0_runs 42 [.val (.ref a), s1, s2] st h = E_ d mX0_runs 43 [.val (.ref a), s1, s2] (.ref a :: st) h := e_go dX0_runs_42 rfl rfl
theorem wX0_runs_43 (ht : oT h a = 1) : E_ d mX0_runs 43 ls (.ref a :: st) h = E_ d mX0_runs 46 ls (va_rf (oR h a 7) :: st) h := e_getR0 dX0_runs_43 rfl rfl ht
theorem wX0_runs_46 (ht : oT h a = 1) : E_ (d + 1) mX0_runs 46 ls [.ref r1, .ref a] h = (C_ d mX0_tick [.ref a, .ref r1] h).bind fun r => E_ (d + 1) mX0_runs 49 ls (xpu r.1 []) r.2 := e_vir dX0_runs_46 rfl rfl rfl rfl rfl rfl (Nat.le_of_ble_eq_true rfl) (Nat.le_of_ble_eq_true rfl) ht
theorem wX0_runs_49 : E_ d mX0_runs 49 ls st h = E_ d mX0_runs 20 ls st h := e_gt dX0_runs_49 rfl
theorem wX0_runs_52 : E_ d mX0_runs 52 [.val (.ref a), s1, s2] st h = E_ d mX0_runs 53 [.val (.ref a), s1, s2] (.ref a :: st) h := e_go dX0_runs_52 rfl rfl
theorem wX0_runs_53 (ht : oT h a = 1) : E_ d mX0_runs 53 ls (.ref a :: st) h = E_ d mX0_runs 56 ls (va_rf (oR h a 7) :: st) h := e_getR0 dX0_runs_53 rfl rfl ht
theorem wX0_runs_56 : E_ d mX0_runs 56 ls [.ref a] h = some (some (.ref a), h) := e_rt dX0_runs_56 rfl rfl
/-! FootOut.tick -/
theorem wX0_tick_0 : E_ d mX0_tick 0 ls st h = E_ d mX0_tick 1 ls (.int (nI 0) :: st) h := e_iconst dX0_tick_0 kiconst_0 rfl
theorem wX0_tick_1 : E_ d mX0_tick 1 [s0, s1, s2, s3] (.int x :: st) h = E_ d mX0_tick 2 [s0, xk s1, .val (.int x), s3] st h := e_go dX0_tick_1 rfl rfl
theorem wX0_tick_2 : E_ d mX0_tick 2 [s0, s1, .val (.int x), s3] st h = E_ d mX0_tick 3 [s0, s1, .val (.int x), s3] (.int x :: st) h := e_go dX0_tick_2 rfl rfl
theorem wX0_tick_3 : E_ d mX0_tick 3 [s0, .val (.ref a), s2, s3] st h = E_ d mX0_tick 4 [s0, .val (.ref a), s2, s3] (.ref a :: st) h := e_go dX0_tick_3 rfl rfl
theorem wX0_tick_4 (ht : oT h a = 5) : E_ (d + 1) mX0_tick 4 ls [.ref a, .int x1] h = (C_ d mX3_many [.ref a] h).bind fun r => E_ (d + 1) mX0_tick 7 ls (xpu r.1 [.int x1]) r.2 := e_vir dX0_tick_4 rfl rfl rfl rfl rfl rfl (Nat.le_of_ble_eq_true rfl) (Nat.le_of_ble_eq_true rfl) ht
theorem wX0_tick_7 : E_ d mX0_tick 7 ls (.int y :: .int x :: st) h = if x < y then E_ d mX0_tick 10 ls st h else E_ d mX0_tick 77 ls st h := e_ige dX0_tick_7 rfl rfl
theorem wX0_tick_10 : E_ d mX0_tick 10 [s0, .val (.ref a), s2, s3] st h = E_ d mX0_tick 11 [s0, .val (.ref a), s2, s3] (.ref a :: st) h := e_go dX0_tick_10 rfl rfl
theorem wX0_tick_11 : E_ d mX0_tick 11 [s0, s1, .val (.int x), s3] st h = E_ d mX0_tick 12 [s0, s1, .val (.int x), s3] (.int x :: st) h := e_go dX0_tick_11 rfl rfl
theorem wX0_tick_12 (ht : oT h a = 5) : E_ (d + 1) mX0_tick 12 ls [.int x1, .ref a] h = (C_ d mX3_isAsked [.ref a, .int x1] h).bind fun r => E_ (d + 1) mX0_tick 15 ls (xpu r.1 []) r.2 := e_vir dX0_tick_12 rfl rfl rfl rfl rfl rfl (Nat.le_of_ble_eq_true rfl) (Nat.le_of_ble_eq_true rfl) ht
theorem wX0_tick_15 : E_ d mX0_tick 15 ls (.int x :: st) h = if x = 0 then E_ d mX0_tick 18 ls st h else E_ d mX0_tick 21 ls st h := e_zne dX0_tick_15 rfl rfl
theorem wX0_tick_18 : E_ d mX0_tick 18 ls st h = E_ d mX0_tick 71 ls st h := e_gt dX0_tick_18 rfl
theorem wX0_tick_21 : E_ d mX0_tick 21 [s0, .val (.ref a), s2, s3] st h = E_ d mX0_tick 22 [s0, .val (.ref a), s2, s3] (.ref a :: st) h := e_go dX0_tick_21 rfl rfl
theorem wX0_tick_22 : E_ d mX0_tick 22 [s0, s1, .val (.int x), s3] st h = E_ d mX0_tick 23 [s0, s1, .val (.int x), s3] (.int x :: st) h := e_go dX0_tick_22 rfl rfl
theorem wX0_tick_23 (ht : oT h a = 5) : E_ (d + 1) mX0_tick 23 ls [.int x1, .ref a] h = (C_ d mX3_can [.ref a, .int x1] h).bind fun r => E_ (d + 1) mX0_tick 26 ls (xpu r.1 []) r.2 := e_vir dX0_tick_23 rfl rfl rfl rfl rfl rfl (Nat.le_of_ble_eq_true rfl) (Nat.le_of_ble_eq_true rfl) ht
theorem wX0_tick_26 : E_ d mX0_tick 26 ls (.int x :: st) h = if x = 0 then E_ d mX0_tick 38 ls st h else E_ d mX0_tick 29 ls st h := e_zeq dX0_tick_26 rfl rfl
theorem wX0_tick_29 : E_ d mX0_tick 29 [.val (.ref a), s1, s2, s3] st h = E_ d mX0_tick 30 [.val (.ref a), s1, s2, s3] (.ref a :: st) h := e_go dX0_tick_29 rfl rfl
theorem wX0_tick_30 : E_ d mX0_tick 30 [s0, .val (.ref a), s2, s3] st h = E_ d mX0_tick 31 [s0, .val (.ref a), s2, s3] (.ref a :: st) h := e_go dX0_tick_30 rfl rfl
theorem wX0_tick_31 : E_ d mX0_tick 31 [s0, s1, .val (.int x), s3] st h = E_ d mX0_tick 32 [s0, s1, .val (.int x), s3] (.int x :: st) h := e_go dX0_tick_31 rfl rfl
theorem wX0_tick_32 (ht : oT h a = 1) : E_ (d + 1) mX0_tick 32 ls [.int x1, .ref r1, .ref a] h = (C_ d mX0_chanceOf [.ref a, .ref r1, .int x1] h).bind fun r => E_ (d + 1) mX0_tick 35 ls (xpu r.1 []) r.2 := e_vir dX0_tick_32 rfl rfl rfl rfl rfl rfl (Nat.le_of_ble_eq_true rfl) (Nat.le_of_ble_eq_true rfl) ht
theorem wX0_tick_35 : E_ d mX0_tick 35 ls st h = E_ d mX0_tick 39 ls st h := e_gt dX0_tick_35 rfl
theorem wX0_tick_38 : E_ d mX0_tick 38 ls st h = E_ d mX0_tick 39 ls (.int (nI 0) :: st) h := e_iconst dX0_tick_38 kiconst_0 rfl
theorem wX0_tick_39 : E_ d mX0_tick 39 [s0, s1, s2, s3] (.int x :: st) h = E_ d mX0_tick 40 [s0, s1, xk s2, .val (.int x)] st h := e_go dX0_tick_39 rfl rfl
theorem wX0_tick_40 : E_ d mX0_tick 40 [s0, .val (.ref a), s2, s3] st h = E_ d mX0_tick 41 [s0, .val (.ref a), s2, s3] (.ref a :: st) h := e_go dX0_tick_40 rfl rfl
theorem wX0_tick_41 (ht : oT h a = 5) : E_ d mX0_tick 41 ls (.ref a :: st) h = E_ d mX0_tick 44 ls (va_rf (oR h a 2) :: st) h := e_getR0 dX0_tick_41 rfl rfl ht
theorem wX0_tick_44 : E_ d mX0_tick 44 [s0, s1, .val (.int x), s3] st h = E_ d mX0_tick 45 [s0, s1, .val (.int x), s3] (.int x :: st) h := e_go dX0_tick_44 rfl rfl
theorem wX0_tick_45 : E_ d mX0_tick 45 [s0, s1, s2, .val (.int x)] st h = E_ d mX0_tick 46 [s0, s1, s2, .val (.int x)] (.int x :: st) h := e_go dX0_tick_45 rfl rfl
theorem wX0_tick_46 : E_ d mX0_tick 46 ls st h = E_ d mX0_tick 48 ls (.int (nI 100) :: st) h := e_bipush dX0_tick_46 kbipush_100 rfl
theorem wX0_tick_48 : E_ d mX0_tick 48 ls (.int y :: .int x :: st) h = if x = y then E_ d mX0_tick 65 ls st h else E_ d mX0_tick 51 ls st h := e_ieq dX0_tick_48 rfl rfl
theorem wX0_tick_51 : E_ d mX0_tick 51 [s0, s1, s2, .val (.int x)] st h = E_ d mX0_tick 52 [s0, s1, s2, .val (.int x)] (.int x :: st) h := e_go dX0_tick_51 rfl rfl
theorem wX0_tick_52 : E_ d mX0_tick 52 ls (.int x :: st) h = if 0 < x then E_ d mX0_tick 55 ls st h else E_ d mX0_tick 69 ls st h := e_zle dX0_tick_52 rfl rfl
theorem wX0_tick_55 : E_ d mX0_tick 55 [.val (.ref a), s1, s2, s3] st h = E_ d mX0_tick 56 [.val (.ref a), s1, s2, s3] (.ref a :: st) h := e_go dX0_tick_55 rfl rfl
theorem wX0_tick_56 : E_ d mX0_tick 56 ls st h = E_ d mX0_tick 58 ls (.int (nI 100) :: st) h := e_bipush dX0_tick_56 kbipush_100 rfl
theorem wX0_tick_58 (ht : oT h a = 1) : E_ (d + 1) mX0_tick 58 ls [.int x1, .ref a, .int x2, .ref r1] h = (C_ d mX0_draw [.ref a, .int x1] h).bind fun r => E_ (d + 1) mX0_tick 61 ls (xpu r.1 [.int x2, .ref r1]) r.2 := e_vir dX0_tick_58 rfl rfl rfl rfl rfl rfl (Nat.le_of_ble_eq_true rfl) (Nat.le_of_ble_eq_true rfl) ht
theorem wX0_tick_61 : E_ d mX0_tick 61 [s0, s1, s2, .val (.int x)] st h = E_ d mX0_tick 62 [s0, s1, s2, .val (.int x)] (.int x :: st) h := e_go dX0_tick_61 rfl rfl
theorem wX0_tick_62 : E_ d mX0_tick 62 ls (.int y :: .int x :: st) h = if x < y then E_ d mX0_tick 65 ls st h else E_ d mX0_tick 69 ls st h := e_ige dX0_tick_62 rfl rfl
theorem wX0_tick_65 : E_ d mX0_tick 65 ls st h = E_ d mX0_tick 66 ls (.int (nI 2) :: st) h := e_iconst dX0_tick_65 kiconst_2 rfl
theorem wX0_tick_66 : E_ d mX0_tick 66 ls st h = E_ d mX0_tick 70 ls st h := e_gt dX0_tick_66 rfl
theorem wX0_tick_69 : E_ d mX0_tick 69 ls st h = E_ d mX0_tick 70 ls (.int (nI 1) :: st) h := e_iconst dX0_tick_69 kiconst_1 rfl
theorem wX0_tick_70 (ht : oT h a = 40) (hi : xix x (oN h a) = true) : E_ d mX0_tick 70 ls (.int y :: .int x :: .ref a :: st) h = E_ d mX0_tick 71 ls st (pI h a (va_up (oI h a) x.toNatClampNeg y)) := e_iast dX0_tick_70 rfl ht hi
theorem wX0_tick_71 : E_ d mX0_tick 71 [s0, s1, .val (.int x), s3] st h = E_ d mX0_tick 74 [s0, xk s1, .val (.int (x + nI 1)), s3] st h := by rw [← kiinc_1]; exact e_go dX0_tick_71 rfl rfl
theorem wX0_tick_74 : E_ d mX0_tick 74 ls st h = E_ d mX0_tick 2 ls st h := e_gt dX0_tick_74 rfl
theorem wX0_tick_77 : E_ d mX0_tick 77 [s0, .val (.ref a), s2, s3] st h = E_ d mX0_tick 78 [s0, .val (.ref a), s2, s3] (.ref a :: st) h := e_go dX0_tick_77 rfl rfl
theorem wX0_tick_78 (ht : oT h a = 5) : E_ (d + 1) mX0_tick 78 ls [.ref a] h = (C_ d mX3_goesOn [.ref a] h).bind fun r => E_ (d + 1) mX0_tick 81 ls (xpu r.1 []) r.2 := e_vir dX0_tick_78 rfl rfl rfl rfl rfl rfl (Nat.le_of_ble_eq_true rfl) (Nat.le_of_ble_eq_true rfl) ht
theorem wX0_tick_81 : E_ d mX0_tick 81 ls [] h = some (none, h) := e_rt dX0_tick_81 rfl rfl
/-! FootOut.draw -/
theorem wX0_draw_0 : E_ d mX0_draw 0 [.val (.ref a), s1] st h = E_ d mX0_draw 1 [.val (.ref a), s1] (.ref a :: st) h := e_go dX0_draw_0 rfl rfl
theorem wX0_draw_1 : E_ d mX0_draw 1 ls st h = E_ d mX0_draw 3 ls (.int (nI 1103515245) :: st) h := e_go dX0_draw_1 rfl rfl
theorem wX0_draw_3 : E_ d mX0_draw 3 [.val (.ref a), s1] st h = E_ d mX0_draw 4 [.val (.ref a), s1] (.ref a :: st) h := e_go dX0_draw_3 rfl rfl
theorem wX0_draw_4 (ht : oT h a = 1) : E_ d mX0_draw 4 ls (.ref a :: st) h = E_ d mX0_draw 7 ls (.int (oI h a 8) :: st) h := e_getI dX0_draw_4 rfl rfl ht
theorem wX0_draw_7 : E_ d mX0_draw 7 ls (.int y :: .int x :: st) h = E_ d mX0_draw 8 ls (.int (x * y) :: st) h := e_go dX0_draw_7 rfl rfl
theorem wX0_draw_8 : E_ d mX0_draw 8 ls st h = E_ d mX0_draw 11 ls (.int (nI 12345) :: st) h := e_sipush dX0_draw_8 ksipush_12345 rfl
theorem wX0_draw_11 : E_ d mX0_draw 11 ls (.int y :: .int x :: st) h = E_ d mX0_draw 12 ls (.int (x + y) :: st) h := e_go dX0_draw_11 rfl rfl
theorem wX0_draw_12 (ht : oT h a = 1) : E_ d mX0_draw 12 ls (.int x :: .ref a :: st) h = E_ d mX0_draw 15 ls st (pI h a (va_up (oI h a) 8 x)) := e_putI dX0_draw_12 rfl rfl ht
theorem wX0_draw_15 : E_ d mX0_draw 15 [.val (.ref a), s1] st h = E_ d mX0_draw 16 [.val (.ref a), s1] (.ref a :: st) h := e_go dX0_draw_15 rfl rfl
theorem wX0_draw_16 (ht : oT h a = 1) : E_ d mX0_draw 16 ls (.ref a :: st) h = E_ d mX0_draw 19 ls (.int (oI h a 8) :: st) h := e_getI dX0_draw_16 rfl rfl ht
theorem wX0_draw_19 : E_ d mX0_draw 19 ls st h = E_ d mX0_draw 21 ls (.int (nI 16) :: st) h := e_bipush dX0_draw_19 kbipush_16 rfl
theorem wX0_draw_21 : E_ d mX0_draw 21 ls (.int y :: .int x :: st) h = E_ d mX0_draw 22 ls (.int ((x.toUInt32 >>> (y.toUInt32 &&& Int32.toUInt32 31)).toInt32) :: st) h := e_go dX0_draw_21 rfl rfl
theorem wX0_draw_22 : E_ d mX0_draw 22 [s0, .val (.int x)] st h = E_ d mX0_draw 23 [s0, .val (.int x)] (.int x :: st) h := e_go dX0_draw_22 rfl rfl
theorem wX0_draw_23 (hy : ¬ y = 0) : E_ d mX0_draw 23 ls (.int y :: .int x :: st) h = E_ d mX0_draw 24 ls (.int (x - x / y * y) :: st) h := e_rem dX0_draw_23 rfl hy
theorem wX0_draw_24 : E_ d mX0_draw 24 ls [.int x] h = some (some (.int x), h) := e_rt dX0_draw_24 rfl rfl
/-! FootOut.stopped -/
theorem wX0_stopped_0 : E_ d mX0_stopped 0 ls st h = E_ d mX0_stopped 1 ls (.int (nI 0) :: st) h := e_iconst dX0_stopped_0 kiconst_0 rfl
theorem wX0_stopped_1 : E_ d mX0_stopped 1 [s0, s1, s2, s3] (.int x :: st) h = E_ d mX0_stopped 2 [s0, xk s1, .val (.int x), s3] st h := e_go dX0_stopped_1 rfl rfl
theorem wX0_stopped_2 : E_ d mX0_stopped 2 ls st h = E_ d mX0_stopped 3 ls (.int (nI 0) :: st) h := e_iconst dX0_stopped_2 kiconst_0 rfl
theorem wX0_stopped_3 : E_ d mX0_stopped 3 [s0, s1, s2, s3] (.int x :: st) h = E_ d mX0_stopped 4 [s0, s1, xk s2, .val (.int x)] st h := e_go dX0_stopped_3 rfl rfl
theorem wX0_stopped_4 : E_ d mX0_stopped 4 [s0, s1, s2, .val (.int x)] st h = E_ d mX0_stopped 5 [s0, s1, s2, .val (.int x)] (.int x :: st) h := e_go dX0_stopped_4 rfl rfl
theorem wX0_stopped_5 : E_ d mX0_stopped 5 [s0, .val (.ref a), s2, s3] st h = E_ d mX0_stopped 6 [s0, .val (.ref a), s2, s3] (.ref a :: st) h := e_go dX0_stopped_5 rfl rfl
theorem wX0_stopped_6 (ht : oT h a = 5) : E_ (d + 1) mX0_stopped 6 ls [.ref a, .int x1] h = (C_ d mX3_many [.ref a] h).bind fun r => E_ (d + 1) mX0_stopped 9 ls (xpu r.1 [.int x1]) r.2 := e_vir dX0_stopped_6 rfl rfl rfl rfl rfl rfl (Nat.le_of_ble_eq_true rfl) (Nat.le_of_ble_eq_true rfl) ht
theorem wX0_stopped_9 : E_ d mX0_stopped 9 ls (.int y :: .int x :: st) h = if x < y then E_ d mX0_stopped 12 ls st h else E_ d mX0_stopped 38 ls st h := e_ige dX0_stopped_9 rfl rfl
theorem wX0_stopped_12 : E_ d mX0_stopped 12 [s0, s1, .val (.int x), s3] st h = E_ d mX0_stopped 13 [s0, s1, .val (.int x), s3] (.int x :: st) h := e_go dX0_stopped_12 rfl rfl
theorem wX0_stopped_13 : E_ d mX0_stopped 13 [s0, .val (.ref a), s2, s3] st h = E_ d mX0_stopped 14 [s0, .val (.ref a), s2, s3] (.ref a :: st) h := e_go dX0_stopped_13 rfl rfl
theorem wX0_stopped_14 (ht : oT h a = 5) : E_ d mX0_stopped 14 ls (.ref a :: st) h = E_ d mX0_stopped 17 ls (va_rf (oR h a 2) :: st) h := e_getR0 dX0_stopped_14 rfl rfl ht
theorem wX0_stopped_17 : E_ d mX0_stopped 17 [s0, s1, s2, .val (.int x)] st h = E_ d mX0_stopped 18 [s0, s1, s2, .val (.int x)] (.int x :: st) h := e_go dX0_stopped_17 rfl rfl
theorem wX0_stopped_18 (ht : oT h a = 40) (hi : xix x (oN h a) = true) : E_ d mX0_stopped 18 ls (.int x :: .ref a :: st) h = E_ d mX0_stopped 19 ls (.int (oI h a x.toNatClampNeg) :: st) h := e_iald dX0_stopped_18 rfl ht hi
theorem wX0_stopped_19 : E_ d mX0_stopped 19 ls st h = E_ d mX0_stopped 20 ls (.int (nI 2) :: st) h := e_iconst dX0_stopped_19 kiconst_2 rfl
theorem wX0_stopped_20 : E_ d mX0_stopped 20 ls (.int y :: .int x :: st) h = if x = y then E_ d mX0_stopped 23 ls st h else E_ d mX0_stopped 29 ls st h := e_ine dX0_stopped_20 rfl rfl
theorem wX0_stopped_23 : E_ d mX0_stopped 23 ls st h = E_ d mX0_stopped 24 ls (.int (nI 1) :: st) h := e_iconst dX0_stopped_23 kiconst_1 rfl
theorem wX0_stopped_24 : E_ d mX0_stopped 24 [s0, s1, s2, .val (.int x)] st h = E_ d mX0_stopped 25 [s0, s1, s2, .val (.int x)] (.int x :: st) h := e_go dX0_stopped_24 rfl rfl
theorem wX0_stopped_25 : E_ d mX0_stopped 25 ls (.int y :: .int x :: st) h = E_ d mX0_stopped 26 ls (.int (x <<< (y &&& 31)) :: st) h := e_go dX0_stopped_25 rfl rfl
theorem wX0_stopped_26 : E_ d mX0_stopped 26 ls st h = E_ d mX0_stopped 30 ls st h := e_gt dX0_stopped_26 rfl
theorem wX0_stopped_29 : E_ d mX0_stopped 29 ls st h = E_ d mX0_stopped 30 ls (.int (nI 0) :: st) h := e_iconst dX0_stopped_29 kiconst_0 rfl
theorem wX0_stopped_30 : E_ d mX0_stopped 30 ls (.int y :: .int x :: st) h = E_ d mX0_stopped 31 ls (.int (x ||| y) :: st) h := e_go dX0_stopped_30 rfl rfl
theorem wX0_stopped_31 : E_ d mX0_stopped 31 [s0, s1, s2, s3] (.int x :: st) h = E_ d mX0_stopped 32 [s0, xk s1, .val (.int x), s3] st h := e_go dX0_stopped_31 rfl rfl
theorem wX0_stopped_32 : E_ d mX0_stopped 32 [s0, s1, s2, .val (.int x)] st h = E_ d mX0_stopped 35 [s0, s1, xk s2, .val (.int (x + nI 1))] st h := by rw [← kiinc_1]; exact e_go dX0_stopped_32 rfl rfl
theorem wX0_stopped_35 : E_ d mX0_stopped 35 ls st h = E_ d mX0_stopped 4 ls st h := e_gt dX0_stopped_35 rfl
theorem wX0_stopped_38 : E_ d mX0_stopped 38 [s0, s1, .val (.int x), s3] st h = E_ d mX0_stopped 39 [s0, s1, .val (.int x), s3] (.int x :: st) h := e_go dX0_stopped_38 rfl rfl
theorem wX0_stopped_39 : E_ d mX0_stopped 39 ls [.int x] h = some (some (.int x), h) := e_rt dX0_stopped_39 rfl rfl
/-! FootOut.watch -/
theorem wX0_watch_0 : E_ d mX0_watch 0 [.val (.ref a), s1, s2, s3, s4, s5] st h = E_ d mX0_watch 1 [.val (.ref a), s1, s2, s3, s4, s5] (.ref a :: st) h := e_go dX0_watch_0 rfl rfl
theorem wX0_watch_1 : E_ d mX0_watch 1 [s0, s1, s2, .val (.int x), s4, s5] st h = E_ d mX0_watch 2 [s0, s1, s2, .val (.int x), s4, s5] (.int x :: st) h := e_go dX0_watch_1 rfl rfl
theorem wX0_watch_2 (ht : oT h a = 1) : E_ (d + 1) mX0_watch 2 ls [.int x1, .ref a] h = (C_ d mX0_isCar [.ref a, .int x1] h).bind fun r => E_ (d + 1) mX0_watch 5 ls (xpu r.1 []) r.2 := e_vir dX0_watch_2 rfl rfl rfl rfl rfl rfl (Nat.le_of_ble_eq_true rfl) (Nat.le_of_ble_eq_true rfl) ht
theorem wX0_watch_5 : E_ d mX0_watch 5 ls (.int x :: st) h = if x = 0 then E_ d mX0_watch 33 ls st h else E_ d mX0_watch 8 ls st h := e_zeq dX0_watch_5 rfl rfl
theorem wX0_watch_8 : E_ d mX0_watch 8 [s0, s1, .val (.int x), s3, s4, s5] st h = E_ d mX0_watch 9 [s0, s1, .val (.int x), s3, s4, s5] (.int x :: st) h := e_go dX0_watch_8 rfl rfl
theorem wX0_watch_9 : E_ d mX0_watch 9 ls (.int x :: st) h = E_ d mX0_watch 10 ls (.long x.toInt64 :: st) h := e_go dX0_watch_9 rfl rfl
theorem wX0_watch_10 : E_ d mX0_watch 10 ls st h = E_ d mX0_watch 11 ls (.long 0 :: st) h := e_go dX0_watch_10 rfl rfl
theorem wX0_watch_11 : E_ d mX0_watch 11 ls st h = E_ d mX0_watch 14 ls (.long (99) :: st) h := e_go dX0_watch_11 rfl rfl
theorem wX0_watch_14 : E_ (d + 1) mX0_watch 14 ls [.long u3, .long u2, .long u1] h = (C_ d mX0_in [.long u1, .long u2, .long u3] h).bind fun r => E_ (d + 1) mX0_watch 17 ls (xpu r.1 []) r.2 := e_call dX0_watch_14 rfl rfl
theorem wX0_watch_17 : E_ d mX0_watch 17 ls (.int x :: st) h = if x = 0 then E_ d mX0_watch 33 ls st h else E_ d mX0_watch 20 ls st h := e_zeq dX0_watch_17 rfl rfl
theorem wX0_watch_20 : E_ d mX0_watch 20 [s0, s1, s2, s3, .val (.int x), s5] st h = E_ d mX0_watch 22 [s0, s1, s2, s3, .val (.int x), s5] (.int x :: st) h := e_go dX0_watch_20 rfl rfl
theorem wX0_watch_22 : E_ d mX0_watch 22 ls (.int x :: st) h = E_ d mX0_watch 23 ls (.long x.toInt64 :: st) h := e_go dX0_watch_22 rfl rfl
theorem wX0_watch_23 : E_ d mX0_watch 23 ls st h = E_ d mX0_watch 24 ls (.long 0 :: st) h := e_go dX0_watch_23 rfl rfl
theorem wX0_watch_24 : E_ d mX0_watch 24 ls st h = E_ d mX0_watch 27 ls (.long (3) :: st) h := e_go dX0_watch_24 rfl rfl
theorem wX0_watch_27 : E_ (d + 1) mX0_watch 27 ls [.long u3, .long u2, .long u1] h = (C_ d mX0_in [.long u1, .long u2, .long u3] h).bind fun r => E_ (d + 1) mX0_watch 30 ls (xpu r.1 []) r.2 := e_call dX0_watch_27 rfl rfl
theorem wX0_watch_30 : E_ d mX0_watch 30 ls (.int x :: st) h = if x = 0 then E_ d mX0_watch 33 ls st h else E_ d mX0_watch 41 ls st h := e_zne dX0_watch_30 rfl rfl
theorem wX0_watch_33 : E_ d mX0_watch 33 [.val (.ref a), s1, s2, s3, s4, s5] st h = E_ d mX0_watch 34 [.val (.ref a), s1, s2, s3, s4, s5] (.ref a :: st) h := e_go dX0_watch_33 rfl rfl
theorem wX0_watch_34 : E_ d mX0_watch 34 ls st h = E_ d mX0_watch 37 ls (.int ((-1000)) :: st) h := e_sipush dX0_watch_34 ksipush_m1000 rfl
theorem wX0_watch_37 (ht : oT h a = 1) : E_ (d + 1) mX0_watch 37 ls [.int x1, .ref a] h = (C_ d mX0_no [.ref a, .int x1] h).bind fun r => E_ (d + 1) mX0_watch 40 ls (xpu r.1 []) r.2 := e_vir dX0_watch_37 rfl rfl rfl rfl rfl rfl (Nat.le_of_ble_eq_true rfl) (Nat.le_of_ble_eq_true rfl) ht
theorem wX0_watch_40 : E_ d mX0_watch 40 ls [.int x] h = some (some (.int x), h) := e_rt dX0_watch_40 rfl rfl
theorem wX0_watch_41 : E_ d mX0_watch 41 [.val (.ref a), s1, s2, s3, s4, s5] st h = E_ d mX0_watch 42 [.val (.ref a), s1, s2, s3, s4, s5] (.ref a :: st) h := e_go dX0_watch_41 rfl rfl
theorem wX0_watch_42 : E_ d mX0_watch 42 [s0, .val (.int x), s2, s3, s4, s5] st h = E_ d mX0_watch 43 [s0, .val (.int x), s2, s3, s4, s5] (.int x :: st) h := e_go dX0_watch_42 rfl rfl
theorem wX0_watch_43 : E_ d mX0_watch 43 [s0, s1, .val (.int x), s3, s4, s5] st h = E_ d mX0_watch 44 [s0, s1, .val (.int x), s3, s4, s5] (.int x :: st) h := e_go dX0_watch_43 rfl rfl
theorem wX0_watch_44 (ht : oT h a = 1) : E_ (d + 1) mX0_watch 44 ls [.int x2, .int x1, .ref a] h = (C_ d mX0_runs [.ref a, .int x1, .int x2] h).bind fun r => E_ (d + 1) mX0_watch 47 ls (xpu r.1 []) r.2 := e_vir dX0_watch_44 rfl rfl rfl rfl rfl rfl (Nat.le_of_ble_eq_true rfl) (Nat.le_of_ble_eq_true rfl) ht
theorem wX0_watch_47 : E_ d mX0_watch 47 [s0, s1, s2, s3, s4, s5] (.ref a :: st) h = E_ d mX0_watch 49 [s0, s1, s2, s3, xk s4, .val (.ref a)] st h := e_go dX0_watch_47 rfl rfl
theorem wX0_watch_49 : E_ d mX0_watch 49 [s0, s1, s2, s3, .val (.int x), s5] st h = E_ d mX0_watch 51 [s0, s1, s2, s3, .val (.int x), s5] (.int x :: st) h := e_go dX0_watch_49 rfl rfl
theorem wX0_watch_51 : E_ d mX0_watch 51 ls (.int x :: st) h = if x = 0 then E_ d mX0_watch 54 ls st h else E_ d mX0_watch 64 ls st h := e_zne dX0_watch_51 rfl rfl
theorem wX0_watch_54 : E_ d mX0_watch 54 [s0, s1, s2, s3, s4, .val (.ref a)] st h = E_ d mX0_watch 56 [s0, s1, s2, s3, s4, .val (.ref a)] (.ref a :: st) h := e_go dX0_watch_54 rfl rfl
theorem wX0_watch_56 (ht : oT h a = 5) : E_ d mX0_watch 56 ls (.ref a :: st) h = E_ d mX0_watch 59 ls (va_rf (oR h a 0) :: st) h := e_getR0 dX0_watch_56 rfl rfl ht
theorem wX0_watch_59 : E_ d mX0_watch 59 [s0, s1, s2, .val (.int x), s4, s5] st h = E_ d mX0_watch 60 [s0, s1, s2, .val (.int x), s4, s5] (.int x :: st) h := e_go dX0_watch_59 rfl rfl
theorem wX0_watch_60 (ht : oT h a = 40) (hi : xix x (oN h a) = true) : E_ d mX0_watch 60 ls (.int x :: .ref a :: st) h = E_ d mX0_watch 61 ls (.int (oI h a x.toNatClampNeg) :: st) h := e_iald dX0_watch_60 rfl ht hi
theorem wX0_watch_61 : E_ d mX0_watch 61 ls st h = E_ d mX0_watch 111 ls st h := e_gt dX0_watch_61 rfl
theorem wX0_watch_64 : E_ d mX0_watch 64 [s0, s1, s2, s3, .val (.int x), s5] st h = E_ d mX0_watch 66 [s0, s1, s2, s3, .val (.int x), s5] (.int x :: st) h := e_go dX0_watch_64 rfl rfl
theorem wX0_watch_66 : E_ d mX0_watch 66 ls st h = E_ d mX0_watch 67 ls (.int (nI 1) :: st) h := e_iconst dX0_watch_66 kiconst_1 rfl
theorem wX0_watch_67 : E_ d mX0_watch 67 ls (.int y :: .int x :: st) h = if x = y then E_ d mX0_watch 70 ls st h else E_ d mX0_watch 80 ls st h := e_ine dX0_watch_67 rfl rfl
theorem wX0_watch_70 : E_ d mX0_watch 70 [s0, s1, s2, s3, s4, .val (.ref a)] st h = E_ d mX0_watch 72 [s0, s1, s2, s3, s4, .val (.ref a)] (.ref a :: st) h := e_go dX0_watch_70 rfl rfl
theorem wX0_watch_72 (ht : oT h a = 5) : E_ d mX0_watch 72 ls (.ref a :: st) h = E_ d mX0_watch 75 ls (va_rf (oR h a 1) :: st) h := e_getR0 dX0_watch_72 rfl rfl ht
theorem wX0_watch_75 : E_ d mX0_watch 75 [s0, s1, s2, .val (.int x), s4, s5] st h = E_ d mX0_watch 76 [s0, s1, s2, .val (.int x), s4, s5] (.int x :: st) h := e_go dX0_watch_75 rfl rfl
theorem wX0_watch_76 (ht : oT h a = 40) (hi : xix x (oN h a) = true) : E_ d mX0_watch 76 ls (.int x :: .ref a :: st) h = E_ d mX0_watch 77 ls (.int (oI h a x.toNatClampNeg) :: st) h := e_iald dX0_watch_76 rfl ht hi
theorem wX0_watch_77 : E_ d mX0_watch 77 ls st h = E_ d mX0_watch 111 ls st h := e_gt dX0_watch_77 rfl
theorem wX0_watch_80 : E_ d mX0_watch 80 [s0, s1, s2, s3, .val (.int x), s5] st h = E_ d mX0_watch 82 [s0, s1, s2, s3, .val (.int x), s5] (.int x :: st) h := e_go dX0_watch_80 rfl rfl
theorem wX0_watch_82 : E_ d mX0_watch 82 ls st h = E_ d mX0_watch 83 ls (.int (nI 2) :: st) h := e_iconst dX0_watch_82 kiconst_2 rfl
theorem wX0_watch_83 : E_ d mX0_watch 83 ls (.int y :: .int x :: st) h = if x = y then E_ d mX0_watch 86 ls st h else E_ d mX0_watch 96 ls st h := e_ine dX0_watch_83 rfl rfl
theorem wX0_watch_86 : E_ d mX0_watch 86 [s0, s1, s2, s3, s4, .val (.ref a)] st h = E_ d mX0_watch 88 [s0, s1, s2, s3, s4, .val (.ref a)] (.ref a :: st) h := e_go dX0_watch_86 rfl rfl
theorem wX0_watch_88 (ht : oT h a = 5) : E_ d mX0_watch 88 ls (.ref a :: st) h = E_ d mX0_watch 91 ls (va_rf (oR h a 2) :: st) h := e_getR0 dX0_watch_88 rfl rfl ht
theorem wX0_watch_91 : E_ d mX0_watch 91 [s0, s1, s2, .val (.int x), s4, s5] st h = E_ d mX0_watch 92 [s0, s1, s2, .val (.int x), s4, s5] (.int x :: st) h := e_go dX0_watch_91 rfl rfl
theorem wX0_watch_92 (ht : oT h a = 40) (hi : xix x (oN h a) = true) : E_ d mX0_watch 92 ls (.int x :: .ref a :: st) h = E_ d mX0_watch 93 ls (.int (oI h a x.toNatClampNeg) :: st) h := e_iald dX0_watch_92 rfl ht hi
theorem wX0_watch_93 : E_ d mX0_watch 93 ls st h = E_ d mX0_watch 111 ls st h := e_gt dX0_watch_93 rfl
theorem wX0_watch_96 : E_ d mX0_watch 96 [s0, s1, s2, s3, s4, .val (.ref a)] st h = E_ d mX0_watch 98 [s0, s1, s2, s3, s4, .val (.ref a)] (.ref a :: st) h := e_go dX0_watch_96 rfl rfl
theorem wX0_watch_98 (ht : oT h a = 5) : E_ d mX0_watch 98 ls (.ref a :: st) h = E_ d mX0_watch 101 ls (va_rf (oR h a 3) :: st) h := e_getR0 dX0_watch_98 rfl rfl ht
theorem wX0_watch_101 : E_ d mX0_watch 101 [s0, s1, s2, .val (.int x), s4, s5] st h = E_ d mX0_watch 102 [s0, s1, s2, .val (.int x), s4, s5] (.int x :: st) h := e_go dX0_watch_101 rfl rfl
theorem wX0_watch_102 (ht : oT h a = 41 ∨ oT h a = 42) (hi : xix x (oN h a) = true) : E_ d mX0_watch 102 ls (.int x :: .ref a :: st) h = E_ d mX0_watch 103 ls (.int (oI h a x.toNatClampNeg) :: st) h := e_bald dX0_watch_102 rfl ht hi
theorem wX0_watch_103 : E_ d mX0_watch 103 ls (.int x :: st) h = if x = 0 then E_ d mX0_watch 110 ls st h else E_ d mX0_watch 106 ls st h := e_zeq dX0_watch_103 rfl rfl
theorem wX0_watch_106 : E_ d mX0_watch 106 ls st h = E_ d mX0_watch 107 ls (.int (nI 1) :: st) h := e_iconst dX0_watch_106 kiconst_1 rfl
theorem wX0_watch_107 : E_ d mX0_watch 107 ls st h = E_ d mX0_watch 111 ls st h := e_gt dX0_watch_107 rfl
theorem wX0_watch_110 : E_ d mX0_watch 110 ls st h = E_ d mX0_watch 111 ls (.int (nI 0) :: st) h := e_iconst dX0_watch_110 kiconst_0 rfl
theorem wX0_watch_111 : E_ d mX0_watch 111 ls [.int x] h = some (some (.int x), h) := e_rt dX0_watch_111 rfl rfl
/-! FootOut.stands -/
theorem wX0_stands_0 : E_ d mX0_stands 0 [s0, s1, .val (.int x), s3] st h = E_ d mX0_stands 1 [s0, s1, .val (.int x), s3] (.int x :: st) h := e_go dX0_stands_0 rfl rfl
theorem wX0_stands_1 : E_ d mX0_stands 1 ls (.int x :: st) h = E_ d mX0_stands 2 ls (.long x.toInt64 :: st) h := e_go dX0_stands_1 rfl rfl
theorem wX0_stands_2 : E_ d mX0_stands 2 ls st h = E_ d mX0_stands 3 ls (.long 0 :: st) h := e_go dX0_stands_2 rfl rfl
theorem wX0_stands_3 : E_ d mX0_stands 3 ls st h = E_ d mX0_stands 6 ls (.long (99) :: st) h := e_go dX0_stands_3 rfl rfl
theorem wX0_stands_6 : E_ (d + 1) mX0_stands 6 ls [.long u3, .long u2, .long u1] h = (C_ d mX0_in [.long u1, .long u2, .long u3] h).bind fun r => E_ (d + 1) mX0_stands 9 ls (xpu r.1 []) r.2 := e_call dX0_stands_6 rfl rfl
theorem wX0_stands_9 : E_ d mX0_stands 9 ls (.int x :: st) h = if x = 0 then E_ d mX0_stands 12 ls st h else E_ d mX0_stands 19 ls st h := e_zne dX0_stands_9 rfl rfl
theorem wX0_stands_12 : E_ d mX0_stands 12 [.val (.ref a), s1, s2, s3] st h = E_ d mX0_stands 13 [.val (.ref a), s1, s2, s3] (.ref a :: st) h := e_go dX0_stands_12 rfl rfl
theorem wX0_stands_13 : E_ d mX0_stands 13 ls st h = E_ d mX0_stands 15 ls (.int ((-3)) :: st) h := e_bipush dX0_stands_13 kbipush_m3 rfl
theorem wX0_stands_15 (ht : oT h a = 1) : E_ (d + 1) mX0_stands 15 ls [.int x1, .ref a] h = (C_ d mX0_no [.ref a, .int x1] h).bind fun r => E_ (d + 1) mX0_stands 18 ls (xpu r.1 []) r.2 := e_vir dX0_stands_15 rfl rfl rfl rfl rfl rfl (Nat.le_of_ble_eq_true rfl) (Nat.le_of_ble_eq_true rfl) ht
theorem wX0_stands_18 : E_ d mX0_stands 18 ls [.int x] h = some (some (.int x), h) := e_rt dX0_stands_18 rfl rfl
theorem wX0_stands_19 : E_ d mX0_stands 19 [.val (.ref a), s1, s2, s3] st h = E_ d mX0_stands 20 [.val (.ref a), s1, s2, s3] (.ref a :: st) h := e_go dX0_stands_19 rfl rfl
theorem wX0_stands_20 : E_ d mX0_stands 20 [s0, .val (.int x), s2, s3] st h = E_ d mX0_stands 21 [s0, .val (.int x), s2, s3] (.int x :: st) h := e_go dX0_stands_20 rfl rfl
theorem wX0_stands_21 : E_ d mX0_stands 21 [s0, s1, .val (.int x), s3] st h = E_ d mX0_stands 22 [s0, s1, .val (.int x), s3] (.int x :: st) h := e_go dX0_stands_21 rfl rfl
theorem wX0_stands_22 (ht : oT h a = 1) : E_ (d + 1) mX0_stands 22 ls [.int x2, .int x1, .ref a] h = (C_ d mX0_runs [.ref a, .int x1, .int x2] h).bind fun r => E_ (d + 1) mX0_stands 25 ls (xpu r.1 []) r.2 := e_vir dX0_stands_22 rfl rfl rfl rfl rfl rfl (Nat.le_of_ble_eq_true rfl) (Nat.le_of_ble_eq_true rfl) ht
theorem wX0_stands_25 : E_ d mX0_stands 25 [s0, s1, s2, s3] (.ref a :: st) h = E_ d mX0_stands 26 [s0, s1, xk s2, .val (.ref a)] st h := e_go dX0_stands_25 rfl rfl
theorem wX0_stands_26 : E_ d mX0_stands 26 ls st h = E_ d mX0_stands 28 ls (.int (nI 10) :: st) h := e_bipush dX0_stands_26 kbipush_10 rfl
theorem wX0_stands_28 : E_ d mX0_stands 28 [s0, s1, s2, .val (.ref a)] st h = E_ d mX0_stands 29 [s0, s1, s2, .val (.ref a)] (.ref a :: st) h := e_go dX0_stands_28 rfl rfl
theorem wX0_stands_29 (ht : oT h a = 5) : E_ d mX0_stands 29 ls (.ref a :: st) h = E_ d mX0_stands 32 ls (.int (oI h a 6) :: st) h := e_getI dX0_stands_29 rfl rfl ht
theorem wX0_stands_32 : E_ d mX0_stands 32 ls (.int y :: .int x :: st) h = E_ d mX0_stands 33 ls (.int (x * y) :: st) h := e_go dX0_stands_32 rfl rfl
theorem wX0_stands_33 : E_ d mX0_stands 33 [s0, s1, s2, .val (.ref a)] st h = E_ d mX0_stands 34 [s0, s1, s2, .val (.ref a)] (.ref a :: st) h := e_go dX0_stands_33 rfl rfl
theorem wX0_stands_34 (ht : oT h a = 5) : E_ d mX0_stands 34 ls (.ref a :: st) h = E_ d mX0_stands 37 ls (.int (oI h a 7) :: st) h := e_getI dX0_stands_34 rfl rfl ht
theorem wX0_stands_37 : E_ d mX0_stands 37 ls (.int x :: st) h = if 0 < x then E_ d mX0_stands 40 ls st h else E_ d mX0_stands 44 ls st h := e_zle dX0_stands_37 rfl rfl
theorem wX0_stands_40 : E_ d mX0_stands 40 ls st h = E_ d mX0_stands 41 ls (.int (nI 1) :: st) h := e_iconst dX0_stands_40 kiconst_1 rfl
theorem wX0_stands_41 : E_ d mX0_stands 41 ls st h = E_ d mX0_stands 45 ls st h := e_gt dX0_stands_41 rfl
theorem wX0_stands_44 : E_ d mX0_stands 44 ls st h = E_ d mX0_stands 45 ls (.int (nI 0) :: st) h := e_iconst dX0_stands_44 kiconst_0 rfl
theorem wX0_stands_45 : E_ d mX0_stands 45 ls (.int y :: .int x :: st) h = E_ d mX0_stands 46 ls (.int (x + y) :: st) h := e_go dX0_stands_45 rfl rfl
theorem wX0_stands_46 : E_ d mX0_stands 46 ls [.int x] h = some (some (.int x), h) := e_rt dX0_stands_46 rfl rfl
/-! FootOut.tries -/
theorem wX0_tries_0 : E_ d mX0_tries 0 [s0, s1, s2, .val (.int x), s4, s5, s6] st h = E_ d mX0_tries 1 [s0, s1, s2, .val (.int x), s4, s5, s6] (.int x :: st) h := e_go dX0_tries_0 rfl rfl
theorem wX0_tries_1 : E_ d mX0_tries 1 ls (.int x :: st) h = E_ d mX0_tries 2 ls (.long x.toInt64 :: st) h := e_go dX0_tries_1 rfl rfl
theorem wX0_tries_2 : E_ d mX0_tries 2 ls st h = E_ d mX0_tries 3 ls (.long 1 :: st) h := e_go dX0_tries_2 rfl rfl
theorem wX0_tries_3 : E_ d mX0_tries 3 ls st h = E_ d mX0_tries 6 ls (.long (5) :: st) h := e_go dX0_tries_3 rfl rfl
theorem wX0_tries_6 : E_ (d + 1) mX0_tries 6 ls [.long u3, .long u2, .long u1] h = (C_ d mX0_in [.long u1, .long u2, .long u3] h).bind fun r => E_ (d + 1) mX0_tries 9 ls (xpu r.1 []) r.2 := e_call dX0_tries_6 rfl rfl
theorem wX0_tries_9 : E_ d mX0_tries 9 ls (.int x :: st) h = if x = 0 then E_ d mX0_tries 12 ls st h else E_ d mX0_tries 19 ls st h := e_zne dX0_tries_9 rfl rfl
theorem wX0_tries_12 : E_ d mX0_tries 12 [.val (.ref a), s1, s2, s3, s4, s5, s6] st h = E_ d mX0_tries 13 [.val (.ref a), s1, s2, s3, s4, s5, s6] (.ref a :: st) h := e_go dX0_tries_12 rfl rfl
theorem wX0_tries_13 : E_ d mX0_tries 13 ls st h = E_ d mX0_tries 15 ls (.int ((-2)) :: st) h := e_bipush dX0_tries_13 kbipush_m2 rfl
theorem wX0_tries_15 (ht : oT h a = 1) : E_ (d + 1) mX0_tries 15 ls [.int x1, .ref a] h = (C_ d mX0_no [.ref a, .int x1] h).bind fun r => E_ (d + 1) mX0_tries 18 ls (xpu r.1 []) r.2 := e_vir dX0_tries_15 rfl rfl rfl rfl rfl rfl (Nat.le_of_ble_eq_true rfl) (Nat.le_of_ble_eq_true rfl) ht
theorem wX0_tries_18 : E_ d mX0_tries 18 ls [.int x] h = some (some (.int x), h) := e_rt dX0_tries_18 rfl rfl
theorem wX0_tries_19 : E_ d mX0_tries 19 [s0, s1, .val (.int x), s3, s4, s5, s6] st h = E_ d mX0_tries 20 [s0, s1, .val (.int x), s3, s4, s5, s6] (.int x :: st) h := e_go dX0_tries_19 rfl rfl
theorem wX0_tries_20 : E_ d mX0_tries 20 ls (.int x :: st) h = E_ d mX0_tries 21 ls (.long x.toInt64 :: st) h := e_go dX0_tries_20 rfl rfl
theorem wX0_tries_21 : E_ d mX0_tries 21 ls st h = E_ d mX0_tries 22 ls (.long 1 :: st) h := e_go dX0_tries_21 rfl rfl
theorem wX0_tries_22 : E_ d mX0_tries 22 ls st h = E_ d mX0_tries 25 ls (.long (60) :: st) h := e_go dX0_tries_22 rfl rfl
theorem wX0_tries_25 : E_ (d + 1) mX0_tries 25 ls [.long u3, .long u2, .long u1] h = (C_ d mX0_in [.long u1, .long u2, .long u3] h).bind fun r => E_ (d + 1) mX0_tries 28 ls (xpu r.1 []) r.2 := e_call dX0_tries_25 rfl rfl
theorem wX0_tries_28 : E_ d mX0_tries 28 ls (.int x :: st) h = if x = 0 then E_ d mX0_tries 31 ls st h else E_ d mX0_tries 38 ls st h := e_zne dX0_tries_28 rfl rfl
theorem wX0_tries_31 : E_ d mX0_tries 31 [.val (.ref a), s1, s2, s3, s4, s5, s6] st h = E_ d mX0_tries 32 [.val (.ref a), s1, s2, s3, s4, s5, s6] (.ref a :: st) h := e_go dX0_tries_31 rfl rfl
theorem wX0_tries_32 : E_ d mX0_tries 32 ls st h = E_ d mX0_tries 34 ls (.int ((-3)) :: st) h := e_bipush dX0_tries_32 kbipush_m3 rfl
theorem wX0_tries_34 (ht : oT h a = 1) : E_ (d + 1) mX0_tries 34 ls [.int x1, .ref a] h = (C_ d mX0_no [.ref a, .int x1] h).bind fun r => E_ (d + 1) mX0_tries 37 ls (xpu r.1 []) r.2 := e_vir dX0_tries_34 rfl rfl rfl rfl rfl rfl (Nat.le_of_ble_eq_true rfl) (Nat.le_of_ble_eq_true rfl) ht
theorem wX0_tries_37 : E_ d mX0_tries 37 ls [.int x] h = some (some (.int x), h) := e_rt dX0_tries_37 rfl rfl
theorem wX0_tries_38 : E_ d mX0_tries 38 ls st h = E_ d mX0_tries 39 ls (.int (nI 0) :: st) h := e_iconst dX0_tries_38 kiconst_0 rfl
theorem wX0_tries_39 : E_ d mX0_tries 39 [s0, s1, s2, s3, s4, s5, s6] (.int x :: st) h = E_ d mX0_tries 41 [s0, s1, s2, xk s3, .val (.int x), s5, s6] st h := e_go dX0_tries_39 rfl rfl
theorem wX0_tries_41 : E_ d mX0_tries 41 ls st h = E_ d mX0_tries 42 ls (.int (nI 0) :: st) h := e_iconst dX0_tries_41 kiconst_0 rfl
theorem wX0_tries_42 : E_ d mX0_tries 42 [s0, s1, s2, s3, s4, s5, s6] (.int x :: st) h = E_ d mX0_tries 44 [s0, s1, s2, s3, xk s4, .val (.int x), s6] st h := e_go dX0_tries_42 rfl rfl
theorem wX0_tries_44 : E_ d mX0_tries 44 [s0, s1, s2, s3, s4, .val (.int x), s6] st h = E_ d mX0_tries 46 [s0, s1, s2, s3, s4, .val (.int x), s6] (.int x :: st) h := e_go dX0_tries_44 rfl rfl
theorem wX0_tries_46 : E_ d mX0_tries 46 [s0, s1, .val (.int x), s3, s4, s5, s6] st h = E_ d mX0_tries 47 [s0, s1, .val (.int x), s3, s4, s5, s6] (.int x :: st) h := e_go dX0_tries_46 rfl rfl
theorem wX0_tries_47 : E_ d mX0_tries 47 ls (.int y :: .int x :: st) h = if x < y then E_ d mX0_tries 50 ls st h else E_ d mX0_tries 113 ls st h := e_ige dX0_tries_47 rfl rfl
theorem wX0_tries_50 : E_ d mX0_tries 50 [.val (.ref a), s1, s2, s3, s4, s5, s6] st h = E_ d mX0_tries 51 [.val (.ref a), s1, s2, s3, s4, s5, s6] (.ref a :: st) h := e_go dX0_tries_50 rfl rfl
theorem wX0_tries_51 : E_ d mX0_tries 51 [s0, .val (.int x), s2, s3, s4, s5, s6] st h = E_ d mX0_tries 52 [s0, .val (.int x), s2, s3, s4, s5, s6] (.int x :: st) h := e_go dX0_tries_51 rfl rfl
theorem wX0_tries_52 : E_ d mX0_tries 52 [s0, s1, s2, s3, s4, .val (.int x), s6] st h = E_ d mX0_tries 54 [s0, s1, s2, s3, s4, .val (.int x), s6] (.int x :: st) h := e_go dX0_tries_52 rfl rfl
theorem wX0_tries_54 : E_ d mX0_tries 54 ls (.int y :: .int x :: st) h = E_ d mX0_tries 55 ls (.int (x + y) :: st) h := e_go dX0_tries_54 rfl rfl
theorem wX0_tries_55 : E_ d mX0_tries 55 ls st h = E_ d mX0_tries 57 ls (.int (nI 99) :: st) h := e_bipush dX0_tries_55 kbipush_99 rfl
theorem wX0_tries_57 (ht : oT h a = 1) : E_ (d + 1) mX0_tries 57 ls [.int x2, .int x1, .ref a] h = (C_ d mX0_runs [.ref a, .int x1, .int x2] h).bind fun r => E_ (d + 1) mX0_tries 60 ls (xpu r.1 []) r.2 := e_vir dX0_tries_57 rfl rfl rfl rfl rfl rfl (Nat.le_of_ble_eq_true rfl) (Nat.le_of_ble_eq_true rfl) ht
theorem wX0_tries_60 : E_ d mX0_tries 60 [s0, s1, s2, s3, s4, s5, s6] (.ref a :: st) h = E_ d mX0_tries 62 [s0, s1, s2, s3, s4, xk s5, .val (.ref a)] st h := e_go dX0_tries_60 rfl rfl
theorem wX0_tries_62 : E_ d mX0_tries 62 [s0, s1, s2, s3, .val (.int x), s5, s6] st h = E_ d mX0_tries 64 [s0, s1, s2, s3, .val (.int x), s5, s6] (.int x :: st) h := e_go dX0_tries_62 rfl rfl
theorem wX0_tries_64 : E_ d mX0_tries 64 [s0, s1, s2, .val (.int x), s4, s5, s6] st h = E_ d mX0_tries 65 [s0, s1, s2, .val (.int x), s4, s5, s6] (.int x :: st) h := e_go dX0_tries_64 rfl rfl
theorem wX0_tries_65 : E_ d mX0_tries 65 ls st h = E_ d mX0_tries 66 ls (.int (nI 4) :: st) h := e_iconst dX0_tries_65 kiconst_4 rfl
theorem wX0_tries_66 : E_ d mX0_tries 66 ls (.int y :: .int x :: st) h = if x = y then E_ d mX0_tries 69 ls st h else E_ d mX0_tries 77 ls st h := e_ine dX0_tries_66 rfl rfl
theorem wX0_tries_69 : E_ d mX0_tries 69 [s0, s1, s2, s3, s4, s5, .val (.ref a)] st h = E_ d mX0_tries 71 [s0, s1, s2, s3, s4, s5, .val (.ref a)] (.ref a :: st) h := e_go dX0_tries_69 rfl rfl
theorem wX0_tries_71 (ht : oT h a = 5) : E_ d mX0_tries 71 ls (.ref a :: st) h = E_ d mX0_tries 74 ls (.int (oI h a 12) :: st) h := e_getI dX0_tries_71 rfl rfl ht
theorem wX0_tries_74 : E_ d mX0_tries 74 ls st h = E_ d mX0_tries 104 ls st h := e_gt dX0_tries_74 rfl
theorem wX0_tries_77 : E_ d mX0_tries 77 [s0, s1, s2, .val (.int x), s4, s5, s6] st h = E_ d mX0_tries 78 [s0, s1, s2, .val (.int x), s4, s5, s6] (.int x :: st) h := e_go dX0_tries_77 rfl rfl
theorem wX0_tries_78 : E_ d mX0_tries 78 ls st h = E_ d mX0_tries 79 ls (.int (nI 5) :: st) h := e_iconst dX0_tries_78 kiconst_5 rfl
theorem wX0_tries_79 : E_ d mX0_tries 79 ls (.int y :: .int x :: st) h = if x = y then E_ d mX0_tries 82 ls st h else E_ d mX0_tries 90 ls st h := e_ine dX0_tries_79 rfl rfl
theorem wX0_tries_82 : E_ d mX0_tries 82 [s0, s1, s2, s3, s4, s5, .val (.ref a)] st h = E_ d mX0_tries 84 [s0, s1, s2, s3, s4, s5, .val (.ref a)] (.ref a :: st) h := e_go dX0_tries_82 rfl rfl
theorem wX0_tries_84 (ht : oT h a = 5) : E_ d mX0_tries 84 ls (.ref a :: st) h = E_ d mX0_tries 87 ls (.int (oI h a 9) :: st) h := e_getI dX0_tries_84 rfl rfl ht
theorem wX0_tries_87 : E_ d mX0_tries 87 ls st h = E_ d mX0_tries 104 ls st h := e_gt dX0_tries_87 rfl
theorem wX0_tries_90 : E_ d mX0_tries 90 [s0, s1, s2, s3, s4, s5, .val (.ref a)] st h = E_ d mX0_tries 92 [s0, s1, s2, s3, s4, s5, .val (.ref a)] (.ref a :: st) h := e_go dX0_tries_90 rfl rfl
theorem wX0_tries_92 (ht : oT h a = 5) : E_ d mX0_tries 92 ls (.ref a :: st) h = E_ d mX0_tries 95 ls (.int (oI h a 10) :: st) h := e_getI dX0_tries_92 rfl rfl ht
theorem wX0_tries_95 : E_ d mX0_tries 95 [s0, s1, s2, .val (.int x), s4, s5, s6] st h = E_ d mX0_tries 96 [s0, s1, s2, .val (.int x), s4, s5, s6] (.int x :: st) h := e_go dX0_tries_95 rfl rfl
theorem wX0_tries_96 : E_ d mX0_tries 96 ls (.int y :: .int x :: st) h = if x = y then E_ d mX0_tries 99 ls st h else E_ d mX0_tries 103 ls st h := e_ine dX0_tries_96 rfl rfl
theorem wX0_tries_99 : E_ d mX0_tries 99 ls st h = E_ d mX0_tries 100 ls (.int (nI 1) :: st) h := e_iconst dX0_tries_99 kiconst_1 rfl
theorem wX0_tries_100 : E_ d mX0_tries 100 ls st h = E_ d mX0_tries 104 ls st h := e_gt dX0_tries_100 rfl
theorem wX0_tries_103 : E_ d mX0_tries 103 ls st h = E_ d mX0_tries 104 ls (.int (nI 0) :: st) h := e_iconst dX0_tries_103 kiconst_0 rfl
theorem wX0_tries_104 : E_ d mX0_tries 104 ls (.int y :: .int x :: st) h = E_ d mX0_tries 105 ls (.int (x + y) :: st) h := e_go dX0_tries_104 rfl rfl
theorem wX0_tries_105 : E_ d mX0_tries 105 [s0, s1, s2, s3, s4, s5, s6] (.int x :: st) h = E_ d mX0_tries 107 [s0, s1, s2, xk s3, .val (.int x), s5, s6] st h := e_go dX0_tries_105 rfl rfl
theorem wX0_tries_107 : E_ d mX0_tries 107 [s0, s1, s2, s3, s4, .val (.int x), s6] st h = E_ d mX0_tries 110 [s0, s1, s2, s3, xk s4, .val (.int (x + nI 1)), s6] st h := by rw [← kiinc_1]; exact e_go dX0_tries_107 rfl rfl
theorem wX0_tries_110 : E_ d mX0_tries 110 ls st h = E_ d mX0_tries 44 ls st h := e_gt dX0_tries_110 rfl
theorem wX0_tries_113 : E_ d mX0_tries 113 [s0, s1, s2, s3, .val (.int x), s5, s6] st h = E_ d mX0_tries 115 [s0, s1, s2, s3, .val (.int x), s5, s6] (.int x :: st) h := e_go dX0_tries_113 rfl rfl
theorem wX0_tries_115 : E_ d mX0_tries 115 ls [.int x] h = some (some (.int x), h) := e_rt dX0_tries_115 rfl rfl
/-! FootOut.odds -/
theorem wX0_odds_0 : E_ d mX0_odds 0 [s0, .val (.int x)] st h = E_ d mX0_odds 1 [s0, .val (.int x)] (.int x :: st) h := e_go dX0_odds_0 rfl rfl
theorem wX0_odds_1 : E_ d mX0_odds 1 ls (.int x :: st) h = E_ d mX0_odds 2 ls (.long x.toInt64 :: st) h := e_go dX0_odds_1 rfl rfl
theorem wX0_odds_2 : E_ d mX0_odds 2 ls st h = E_ d mX0_odds 3 ls (.long 0 :: st) h := e_go dX0_odds_2 rfl rfl
theorem wX0_odds_3 : E_ d mX0_odds 3 ls st h = E_ d mX0_odds 6 ls (.long (5) :: st) h := e_go dX0_odds_3 rfl rfl
theorem wX0_odds_6 : E_ (d + 1) mX0_odds 6 ls [.long u3, .long u2, .long u1] h = (C_ d mX0_in [.long u1, .long u2, .long u3] h).bind fun r => E_ (d + 1) mX0_odds 9 ls (xpu r.1 []) r.2 := e_call dX0_odds_6 rfl rfl
theorem wX0_odds_9 : E_ d mX0_odds 9 ls (.int x :: st) h = if x = 0 then E_ d mX0_odds 12 ls st h else E_ d mX0_odds 20 ls st h := e_zne dX0_odds_9 rfl rfl
theorem wX0_odds_12 : E_ d mX0_odds 12 [.val (.ref a), s1] st h = E_ d mX0_odds 13 [.val (.ref a), s1] (.ref a :: st) h := e_go dX0_odds_12 rfl rfl
theorem wX0_odds_13 : E_ d mX0_odds 13 ls st h = E_ d mX0_odds 15 ls (.int ((-2)) :: st) h := e_bipush dX0_odds_13 kbipush_m2 rfl
theorem wX0_odds_15 (ht : oT h a = 1) : E_ (d + 1) mX0_odds 15 ls [.int x1, .ref a] h = (C_ d mX0_no [.ref a, .int x1] h).bind fun r => E_ (d + 1) mX0_odds 18 ls (xpu r.1 []) r.2 := e_vir dX0_odds_15 rfl rfl rfl rfl rfl rfl (Nat.le_of_ble_eq_true rfl) (Nat.le_of_ble_eq_true rfl) ht
theorem wX0_odds_18 : E_ d mX0_odds 18 ls (.int x :: st) h = E_ d mX0_odds 19 ls (.long x.toInt64 :: st) h := e_go dX0_odds_18 rfl rfl
theorem wX0_odds_19 : E_ d mX0_odds 19 ls [.long u] h = some (some (.long u), h) := e_rt dX0_odds_19 rfl rfl
theorem wX0_odds_20 : E_ d mX0_odds 20 [.val (.ref a), s1] st h = E_ d mX0_odds 21 [.val (.ref a), s1] (.ref a :: st) h := e_go dX0_odds_20 rfl rfl
theorem wX0_odds_21 : E_ d mX0_odds 21 [.val (.ref a), s1] st h = E_ d mX0_odds 22 [.val (.ref a), s1] (.ref a :: st) h := e_go dX0_odds_21 rfl rfl
theorem wX0_odds_22 (ht : oT h a = 1) : E_ d mX0_odds 22 ls (.ref a :: st) h = E_ d mX0_odds 25 ls (va_rf (oR h a 0) :: st) h := e_getR dX0_odds_22 rfl rfl ht
theorem wX0_odds_25 (ht : oT h a = 2) : E_ d mX0_odds 25 ls (.ref a :: st) h = E_ d mX0_odds 28 ls (va_rf (oR h a 0) :: st) h := e_getR dX0_odds_25 rfl rfl ht
theorem wX0_odds_28 (ht : oT h a = 1) : E_ (d + 1) mX0_odds 28 ls [.ref r1, .ref a] h = (C_ d mX0_gathers [.ref a, .ref r1] h).bind fun r => E_ (d + 1) mX0_odds 31 ls (xpu r.1 []) r.2 := e_vir dX0_odds_28 rfl rfl rfl rfl rfl rfl (Nat.le_of_ble_eq_true rfl) (Nat.le_of_ble_eq_true rfl) ht
theorem wX0_odds_31 : E_ d mX0_odds 31 [.val (.ref a), s1] st h = E_ d mX0_odds 32 [.val (.ref a), s1] (.ref a :: st) h := e_go dX0_odds_31 rfl rfl
theorem wX0_odds_32 (ht : oT h a = 1) : E_ d mX0_odds 32 ls (.ref a :: st) h = E_ d mX0_odds 35 ls (va_rf (oR h a 10) :: st) h := e_getR0 dX0_odds_32 rfl rfl ht
theorem wX0_odds_35 : E_ d mX0_odds 35 [s0, .val (.int x)] st h = E_ d mX0_odds 36 [s0, .val (.int x)] (.int x :: st) h := e_go dX0_odds_35 rfl rfl
theorem wX0_odds_36 (ht : oT h a = 44) (hi : xix x (oN h a) = true) : E_ d mX0_odds 36 ls (.int x :: .ref a :: st) h = E_ d mX0_odds 37 ls (.long (oL h a x.toNatClampNeg) :: st) h := e_lald dX0_odds_36 rfl ht hi
theorem wX0_odds_37 : E_ d mX0_odds 37 ls [.long u] h = some (some (.long u), h) := e_rt dX0_odds_37 rfl rfl
/-! FootOut.gathers -/
theorem wX0_gathers_0 : E_ d mX0_gathers 0 ls st h = E_ d mX0_gathers 1 ls (.int (nI 0) :: st) h := e_iconst dX0_gathers_0 kiconst_0 rfl
theorem wX0_gathers_1 : E_ d mX0_gathers 1 [s0, s1, s2] (.int x :: st) h = E_ d mX0_gathers 2 [s0, xk s1, .val (.int x)] st h := e_go dX0_gathers_1 rfl rfl
theorem wX0_gathers_2 : E_ d mX0_gathers 2 [s0, s1, .val (.int x)] st h = E_ d mX0_gathers 3 [s0, s1, .val (.int x)] (.int x :: st) h := e_go dX0_gathers_2 rfl rfl
theorem wX0_gathers_3 : E_ d mX0_gathers 3 [.val (.ref a), s1, s2] st h = E_ d mX0_gathers 4 [.val (.ref a), s1, s2] (.ref a :: st) h := e_go dX0_gathers_3 rfl rfl
theorem wX0_gathers_4 (ht : oT h a = 1) : E_ d mX0_gathers 4 ls (.ref a :: st) h = E_ d mX0_gathers 7 ls (va_rf (oR h a 10) :: st) h := e_getR0 dX0_gathers_4 rfl rfl ht
theorem wX0_gathers_7 (ht : 39 ≤ oT h a ∧ oT h a ≤ 48) : E_ d mX0_gathers 7 ls (.ref a :: st) h = E_ d mX0_gathers 8 ls (.int (nI (oN h a)) :: st) h := e_len dX0_gathers_7 rfl ht
theorem wX0_gathers_8 : E_ d mX0_gathers 8 ls (.int y :: .int x :: st) h = if x < y then E_ d mX0_gathers 11 ls st h else E_ d mX0_gathers 24 ls st h := e_ige dX0_gathers_8 rfl rfl
theorem wX0_gathers_11 : E_ d mX0_gathers 11 [.val (.ref a), s1, s2] st h = E_ d mX0_gathers 12 [.val (.ref a), s1, s2] (.ref a :: st) h := e_go dX0_gathers_11 rfl rfl
theorem wX0_gathers_12 (ht : oT h a = 1) : E_ d mX0_gathers 12 ls (.ref a :: st) h = E_ d mX0_gathers 15 ls (va_rf (oR h a 10) :: st) h := e_getR0 dX0_gathers_12 rfl rfl ht
theorem wX0_gathers_15 : E_ d mX0_gathers 15 [s0, s1, .val (.int x)] st h = E_ d mX0_gathers 16 [s0, s1, .val (.int x)] (.int x :: st) h := e_go dX0_gathers_15 rfl rfl
theorem wX0_gathers_16 : E_ d mX0_gathers 16 ls st h = E_ d mX0_gathers 17 ls (.long 0 :: st) h := e_go dX0_gathers_16 rfl rfl
theorem wX0_gathers_17 (ht : oT h a = 44) (hi : xix x (oN h a) = true) : E_ d mX0_gathers 17 ls (.long u :: .int x :: .ref a :: st) h = E_ d mX0_gathers 18 ls st (pL h a (va_up (oL h a) x.toNatClampNeg u)) := e_last dX0_gathers_17 rfl ht hi
theorem wX0_gathers_18 : E_ d mX0_gathers 18 [s0, s1, .val (.int x)] st h = E_ d mX0_gathers 21 [s0, xk s1, .val (.int (x + nI 1))] st h := by rw [← kiinc_1]; exact e_go dX0_gathers_18 rfl rfl
theorem wX0_gathers_21 : E_ d mX0_gathers 21 ls st h = E_ d mX0_gathers 2 ls st h := e_gt dX0_gathers_21 rfl
theorem wX0_gathers_24 : E_ d mX0_gathers 24 ls st h = E_ d mX0_gathers 25 ls (.int (nI 0) :: st) h := e_iconst dX0_gathers_24 kiconst_0 rfl
theorem wX0_gathers_25 : E_ d mX0_gathers 25 [s0, s1, s2] (.int x :: st) h = E_ d mX0_gathers 26 [s0, xk s1, .val (.int x)] st h := e_go dX0_gathers_25 rfl rfl
theorem wX0_gathers_26 : E_ d mX0_gathers 26 [s0, s1, .val (.int x)] st h = E_ d mX0_gathers 27 [s0, s1, .val (.int x)] (.int x :: st) h := e_go dX0_gathers_26 rfl rfl
theorem wX0_gathers_27 : E_ d mX0_gathers 27 ls st h = E_ d mX0_gathers 29 ls (.int (nI 8) :: st) h := e_bipush dX0_gathers_27 kbipush_8 rfl
theorem wX0_gathers_29 : E_ d mX0_gathers 29 ls (.int y :: .int x :: st) h = if x < y then E_ d mX0_gathers 32 ls st h else E_ d mX0_gathers 52 ls st h := e_ige dX0_gathers_29 rfl rfl
theorem wX0_gathers_32 : E_ d mX0_gathers 32 [.val (.ref a), s1, s2] st h = E_ d mX0_gathers 33 [.val (.ref a), s1, s2] (.ref a :: st) h := e_go dX0_gathers_32 rfl rfl
theorem wX0_gathers_33 (ht : oT h a = 1) : E_ d mX0_gathers 33 ls (.ref a :: st) h = E_ d mX0_gathers 36 ls (va_rf (oR h a 11) :: st) h := e_getR0 dX0_gathers_33 rfl rfl ht
theorem wX0_gathers_36 : E_ d mX0_gathers 36 [s0, s1, .val (.int x)] st h = E_ d mX0_gathers 37 [s0, s1, .val (.int x)] (.int x :: st) h := e_go dX0_gathers_36 rfl rfl
theorem wX0_gathers_37 : E_ d mX0_gathers 37 ls st h = E_ d mX0_gathers 38 ls (.long 0 :: st) h := e_go dX0_gathers_37 rfl rfl
theorem wX0_gathers_38 (ht : oT h a = 44) (hi : xix x (oN h a) = true) : E_ d mX0_gathers 38 ls (.long u :: .int x :: .ref a :: st) h = E_ d mX0_gathers 39 ls st (pL h a (va_up (oL h a) x.toNatClampNeg u)) := e_last dX0_gathers_38 rfl ht hi
theorem wX0_gathers_39 : E_ d mX0_gathers 39 [.val (.ref a), s1, s2] st h = E_ d mX0_gathers 40 [.val (.ref a), s1, s2] (.ref a :: st) h := e_go dX0_gathers_39 rfl rfl
theorem wX0_gathers_40 (ht : oT h a = 1) : E_ d mX0_gathers 40 ls (.ref a :: st) h = E_ d mX0_gathers 43 ls (va_rf (oR h a 12) :: st) h := e_getR0 dX0_gathers_40 rfl rfl ht
theorem wX0_gathers_43 : E_ d mX0_gathers 43 [s0, s1, .val (.int x)] st h = E_ d mX0_gathers 44 [s0, s1, .val (.int x)] (.int x :: st) h := e_go dX0_gathers_43 rfl rfl
theorem wX0_gathers_44 : E_ d mX0_gathers 44 ls st h = E_ d mX0_gathers 45 ls (.long 0 :: st) h := e_go dX0_gathers_44 rfl rfl
theorem wX0_gathers_45 (ht : oT h a = 44) (hi : xix x (oN h a) = true) : E_ d mX0_gathers 45 ls (.long u :: .int x :: .ref a :: st) h = E_ d mX0_gathers 46 ls st (pL h a (va_up (oL h a) x.toNatClampNeg u)) := e_last dX0_gathers_45 rfl ht hi
theorem wX0_gathers_46 : E_ d mX0_gathers 46 [s0, s1, .val (.int x)] st h = E_ d mX0_gathers 49 [s0, xk s1, .val (.int (x + nI 1))] st h := by rw [← kiinc_1]; exact e_go dX0_gathers_46 rfl rfl
theorem wX0_gathers_49 : E_ d mX0_gathers 49 ls st h = E_ d mX0_gathers 26 ls st h := e_gt dX0_gathers_49 rfl
theorem wX0_gathers_52 : E_ d mX0_gathers 52 [.val (.ref a), s1, s2] st h = E_ d mX0_gathers 53 [.val (.ref a), s1, s2] (.ref a :: st) h := e_go dX0_gathers_52 rfl rfl
theorem wX0_gathers_53 (ht : oT h a = 1) : E_ d mX0_gathers 53 ls (.ref a :: st) h = E_ d mX0_gathers 56 ls (va_rf (oR h a 9) :: st) h := e_getR0 dX0_gathers_53 rfl rfl ht
theorem wX0_gathers_56 : E_ d mX0_gathers 56 ls st h = E_ d mX0_gathers 57 ls (.int (nI 0) :: st) h := e_iconst dX0_gathers_56 kiconst_0 rfl
theorem wX0_gathers_57 (ht : 45 ≤ oT h a ∧ oT h a ≤ 48) (hi : xix x (oN h a) = true) : E_ d mX0_gathers 57 ls (.int x :: .ref a :: st) h = E_ d mX0_gathers 58 ls (va_rf (oR h a x.toNatClampNeg) :: st) h := e_aald dX0_gathers_57 rfl ht hi
theorem wX0_gathers_58 : E_ d mX0_gathers 58 [s0, .val (.ref a), s2] st h = E_ d mX0_gathers 59 [s0, .val (.ref a), s2] (.ref a :: st) h := e_go dX0_gathers_58 rfl rfl
theorem wX0_gathers_59 (ht : oT h a = 5) : E_ (d + 1) mX0_gathers 59 ls [.ref r1, .ref a] h = (C_ d mX3_begins [.ref a, .ref r1] h).bind fun r => E_ (d + 1) mX0_gathers 62 ls (xpu r.1 []) r.2 := e_vir dX0_gathers_59 rfl rfl rfl rfl rfl rfl (Nat.le_of_ble_eq_true rfl) (Nat.le_of_ble_eq_true rfl) ht
theorem wX0_gathers_62 : E_ d mX0_gathers 62 ls (.ref a :: st) h = E_ d mX0_gathers 63 ls st h := e_go dX0_gathers_62 rfl rfl
theorem wX0_gathers_63 : E_ d mX0_gathers 63 [.val (.ref a), s1, s2] st h = E_ d mX0_gathers 64 [.val (.ref a), s1, s2] (.ref a :: st) h := e_go dX0_gathers_63 rfl rfl
theorem wX0_gathers_64 : E_ d mX0_gathers 64 ls st h = E_ d mX0_gathers 65 ls (.int (nI 0) :: st) h := e_iconst dX0_gathers_64 kiconst_0 rfl
theorem wX0_gathers_65 : E_ d mX0_gathers 65 ls st h = E_ d mX0_gathers 66 ls (.int (nI 0) :: st) h := e_iconst dX0_gathers_65 kiconst_0 rfl
theorem wX0_gathers_66 : E_ d mX0_gathers 66 ls st h = E_ d mX0_gathers 67 ls (.long 1 :: st) h := e_go dX0_gathers_66 rfl rfl
theorem wX0_gathers_67 (ht : oT h a = 1) : E_ (d + 1) mX0_gathers 67 ls [.long u1, .int x2, .int x1, .ref a] h = (C_ d mX0_forks [.ref a, .int x1, .int x2, .long u1] h).bind fun r => E_ (d + 1) mX0_gathers 70 ls (xpu r.1 []) r.2 := e_vir dX0_gathers_67 rfl rfl rfl rfl rfl rfl (Nat.le_of_ble_eq_true rfl) (Nat.le_of_ble_eq_true rfl) ht
theorem wX0_gathers_70 : E_ d mX0_gathers 70 ls [] h = some (none, h) := e_rt dX0_gathers_70 rfl rfl
/-! FootOut.forks -/
theorem wX0_forks_0 : E_ d mX0_forks 0 [.val (.ref a), s1, s2, s3, s4, s5, s6, s7, s8, s9, s10] st h = E_ d mX0_forks 1 [.val (.ref a), s1, s2, s3, s4, s5, s6, s7, s8, s9, s10] (.ref a :: st) h := e_go dX0_forks_0 rfl rfl
theorem wX0_forks_1 (ht : oT h a = 1) : E_ d mX0_forks 1 ls (.ref a :: st) h = E_ d mX0_forks 4 ls (va_rf (oR h a 9) :: st) h := e_getR0 dX0_forks_1 rfl rfl ht
theorem wX0_forks_4 : E_ d mX0_forks 4 [s0, .val (.int x), s2, s3, s4, s5, s6, s7, s8, s9, s10] st h = E_ d mX0_forks 5 [s0, .val (.int x), s2, s3, s4, s5, s6, s7, s8, s9, s10] (.int x :: st) h := e_go dX0_forks_4 rfl rfl
theorem wX0_forks_5 (ht : 45 ≤ oT h a ∧ oT h a ≤ 48) (hi : xix x (oN h a) = true) : E_ d mX0_forks 5 ls (.int x :: .ref a :: st) h = E_ d mX0_forks 6 ls (va_rf (oR h a x.toNatClampNeg) :: st) h := e_aald dX0_forks_5 rfl ht hi
theorem wX0_forks_6 : E_ d mX0_forks 6 [s0, s1, s2, s3, s4, s5, s6, s7, s8, s9, s10] (.ref a :: st) h = E_ d mX0_forks 8 [s0, s1, s2, s3, xk s4, .val (.ref a), s6, s7, s8, s9, s10] st h := e_go dX0_forks_6 rfl rfl
theorem wX0_forks_8 : E_ d mX0_forks 8 [s0, s1, s2, .val (.long u), s4, s5, s6, s7, s8, s9, s10] st h = E_ d mX0_forks 9 [s0, s1, s2, .val (.long u), s4, s5, s6, s7, s8, s9, s10] (.long u :: st) h := e_go dX0_forks_8 rfl rfl
theorem wX0_forks_9 : E_ d mX0_forks 9 [s0, s1, s2, s3, s4, s5, s6, s7, s8, s9, s10] (.long u :: st) h = E_ d mX0_forks 11 [s0, s1, s2, s3, s4, xk s5, .val (.long u), .unset, s8, s9, s10] st h := e_go dX0_forks_9 rfl rfl
theorem wX0_forks_11 : E_ d mX0_forks 11 [s0, s1, .val (.int x), s3, s4, s5, s6, s7, s8, s9, s10] st h = E_ d mX0_forks 12 [s0, s1, .val (.int x), s3, s4, s5, s6, s7, s8, s9, s10] (.int x :: st) h := e_go dX0_forks_11 rfl rfl
theorem wX0_forks_12 : E_ d mX0_forks 12 [s0, s1, s2, s3, s4, s5, s6, s7, s8, s9, s10] (.int x :: st) h = E_ d mX0_forks 14 [s0, s1, s2, s3, s4, s5, s6, xk s7, .val (.int x), s9, s10] st h := e_go dX0_forks_12 rfl rfl
theorem wX0_forks_14 : E_ d mX0_forks 14 [s0, s1, s2, s3, s4, .val (.ref a), s6, s7, s8, s9, s10] st h = E_ d mX0_forks 16 [s0, s1, s2, s3, s4, .val (.ref a), s6, s7, s8, s9, s10] (.ref a :: st) h := e_go dX0_forks_14 rfl rfl
theorem wX0_forks_16 (ht : oT h a = 5) : E_ d mX0_forks 16 ls (.ref a :: st) h = E_ d mX0_forks 19 ls (.int (oI h a 10) :: st) h := e_getI dX0_forks_16 rfl rfl ht
theorem wX0_forks_19 : E_ d mX0_forks 19 ls (.int x :: st) h = if x = 0 then E_ d mX0_forks 22 ls st h else E_ d mX0_forks 189 ls st h := e_zne dX0_forks_19 rfl rfl
theorem wX0_forks_22 : E_ d mX0_forks 22 [s0, s1, s2, s3, s4, s5, s6, s7, .val (.int x), s9, s10] st h = E_ d mX0_forks 24 [s0, s1, s2, s3, s4, s5, s6, s7, .val (.int x), s9, s10] (.int x :: st) h := e_go dX0_forks_22 rfl rfl
theorem wX0_forks_24 : E_ d mX0_forks 24 [s0, s1, s2, s3, s4, s5, s6, s7, s8, s9, s10] (.int x :: st) h = E_ d mX0_forks 26 [s0, s1, s2, s3, s4, s5, s6, s7, xk s8, .val (.int x), s10] st h := e_go dX0_forks_24 rfl rfl
theorem wX0_forks_26 : E_ d mX0_forks 26 [s0, s1, s2, s3, s4, s5, s6, s7, s8, .val (.int x), s10] st h = E_ d mX0_forks 28 [s0, s1, s2, s3, s4, s5, s6, s7, s8, .val (.int x), s10] (.int x :: st) h := e_go dX0_forks_26 rfl rfl
theorem wX0_forks_28 : E_ d mX0_forks 28 [s0, s1, s2, s3, s4, .val (.ref a), s6, s7, s8, s9, s10] st h = E_ d mX0_forks 30 [s0, s1, s2, s3, s4, .val (.ref a), s6, s7, s8, s9, s10] (.ref a :: st) h := e_go dX0_forks_28 rfl rfl
theorem wX0_forks_30 (ht : oT h a = 5) : E_ (d + 1) mX0_forks 30 ls [.ref a, .int x1] h = (C_ d mX3_many [.ref a] h).bind fun r => E_ (d + 1) mX0_forks 33 ls (xpu r.1 [.int x1]) r.2 := e_vir dX0_forks_30 rfl rfl rfl rfl rfl rfl (Nat.le_of_ble_eq_true rfl) (Nat.le_of_ble_eq_true rfl) ht
theorem wX0_forks_33 : E_ d mX0_forks 33 ls (.int y :: .int x :: st) h = if x < y then E_ d mX0_forks 36 ls st h else E_ d mX0_forks 178 ls st h := e_ige dX0_forks_33 rfl rfl
theorem wX0_forks_36 : E_ d mX0_forks 36 [s0, s1, s2, s3, s4, .val (.ref a), s6, s7, s8, s9, s10] st h = E_ d mX0_forks 38 [s0, s1, s2, s3, s4, .val (.ref a), s6, s7, s8, s9, s10] (.ref a :: st) h := e_go dX0_forks_36 rfl rfl
theorem wX0_forks_38 : E_ d mX0_forks 38 [s0, s1, s2, s3, s4, s5, s6, s7, s8, .val (.int x), s10] st h = E_ d mX0_forks 40 [s0, s1, s2, s3, s4, s5, s6, s7, s8, .val (.int x), s10] (.int x :: st) h := e_go dX0_forks_38 rfl rfl
theorem wX0_forks_40 (ht : oT h a = 5) : E_ (d + 1) mX0_forks 40 ls [.int x1, .ref a] h = (C_ d mX3_isAsked [.ref a, .int x1] h).bind fun r => E_ (d + 1) mX0_forks 43 ls (xpu r.1 []) r.2 := e_vir dX0_forks_40 rfl rfl rfl rfl rfl rfl (Nat.le_of_ble_eq_true rfl) (Nat.le_of_ble_eq_true rfl) ht
theorem wX0_forks_43 : E_ d mX0_forks 43 ls (.int x :: st) h = if x = 0 then E_ d mX0_forks 46 ls st h else E_ d mX0_forks 49 ls st h := e_zne dX0_forks_43 rfl rfl
theorem wX0_forks_46 : E_ d mX0_forks 46 ls st h = E_ d mX0_forks 172 ls st h := e_gt dX0_forks_46 rfl
theorem wX0_forks_49 : E_ d mX0_forks 49 [s0, s1, s2, s3, s4, .val (.ref a), s6, s7, s8, s9, s10] st h = E_ d mX0_forks 51 [s0, s1, s2, s3, s4, .val (.ref a), s6, s7, s8, s9, s10] (.ref a :: st) h := e_go dX0_forks_49 rfl rfl
theorem wX0_forks_51 : E_ d mX0_forks 51 [s0, s1, s2, s3, s4, s5, s6, s7, s8, .val (.int x), s10] st h = E_ d mX0_forks 53 [s0, s1, s2, s3, s4, s5, s6, s7, s8, .val (.int x), s10] (.int x :: st) h := e_go dX0_forks_51 rfl rfl
theorem wX0_forks_53 (ht : oT h a = 5) : E_ (d + 1) mX0_forks 53 ls [.int x1, .ref a] h = (C_ d mX3_can [.ref a, .int x1] h).bind fun r => E_ (d + 1) mX0_forks 56 ls (xpu r.1 []) r.2 := e_vir dX0_forks_53 rfl rfl rfl rfl rfl rfl (Nat.le_of_ble_eq_true rfl) (Nat.le_of_ble_eq_true rfl) ht
theorem wX0_forks_56 : E_ d mX0_forks 56 ls (.int x :: st) h = if x = 0 then E_ d mX0_forks 70 ls st h else E_ d mX0_forks 59 ls st h := e_zeq dX0_forks_56 rfl rfl
theorem wX0_forks_59 : E_ d mX0_forks 59 [.val (.ref a), s1, s2, s3, s4, s5, s6, s7, s8, s9, s10] st h = E_ d mX0_forks 60 [.val (.ref a), s1, s2, s3, s4, s5, s6, s7, s8, s9, s10] (.ref a :: st) h := e_go dX0_forks_59 rfl rfl
theorem wX0_forks_60 : E_ d mX0_forks 60 [s0, s1, s2, s3, s4, .val (.ref a), s6, s7, s8, s9, s10] st h = E_ d mX0_forks 62 [s0, s1, s2, s3, s4, .val (.ref a), s6, s7, s8, s9, s10] (.ref a :: st) h := e_go dX0_forks_60 rfl rfl
theorem wX0_forks_62 : E_ d mX0_forks 62 [s0, s1, s2, s3, s4, s5, s6, s7, s8, .val (.int x), s10] st h = E_ d mX0_forks 64 [s0, s1, s2, s3, s4, s5, s6, s7, s8, .val (.int x), s10] (.int x :: st) h := e_go dX0_forks_62 rfl rfl
theorem wX0_forks_64 (ht : oT h a = 1) : E_ (d + 1) mX0_forks 64 ls [.int x1, .ref r1, .ref a] h = (C_ d mX0_chanceOf [.ref a, .ref r1, .int x1] h).bind fun r => E_ (d + 1) mX0_forks 67 ls (xpu r.1 []) r.2 := e_vir dX0_forks_64 rfl rfl rfl rfl rfl rfl (Nat.le_of_ble_eq_true rfl) (Nat.le_of_ble_eq_true rfl) ht
theorem wX0_forks_67 : E_ d mX0_forks 67 ls st h = E_ d mX0_forks 71 ls st h := e_gt dX0_forks_67 rfl
theorem wX0_forks_70 : E_ d mX0_forks 70 ls st h = E_ d mX0_forks 71 ls (.int (nI 0) :: st) h := e_iconst dX0_forks_70 kiconst_0 rfl
theorem wX0_forks_71 : E_ d mX0_forks 71 [s0, s1, s2, s3, s4, s5, s6, s7, s8, s9, s10] (.int x :: st) h = E_ d mX0_forks 73 [s0, s1, s2, s3, s4, s5, s6, s7, s8, xk s9, .val (.int x)] st h := e_go dX0_forks_71 rfl rfl
theorem wX0_forks_73 : E_ d mX0_forks 73 [s0, s1, s2, s3, s4, .val (.ref a), s6, s7, s8, s9, s10] st h = E_ d mX0_forks 75 [s0, s1, s2, s3, s4, .val (.ref a), s6, s7, s8, s9, s10] (.ref a :: st) h := e_go dX0_forks_73 rfl rfl
theorem wX0_forks_75 (ht : oT h a = 5) : E_ d mX0_forks 75 ls (.ref a :: st) h = E_ d mX0_forks 78 ls (va_rf (oR h a 2) :: st) h := e_getR0 dX0_forks_75 rfl rfl ht
theorem wX0_forks_78 : E_ d mX0_forks 78 [s0, s1, s2, s3, s4, s5, s6, s7, s8, .val (.int x), s10] st h = E_ d mX0_forks 80 [s0, s1, s2, s3, s4, s5, s6, s7, s8, .val (.int x), s10] (.int x :: st) h := e_go dX0_forks_78 rfl rfl
theorem wX0_forks_80 : E_ d mX0_forks 80 [s0, s1, s2, s3, s4, s5, s6, s7, s8, s9, .val (.int x)] st h = E_ d mX0_forks 82 [s0, s1, s2, s3, s4, s5, s6, s7, s8, s9, .val (.int x)] (.int x :: st) h := e_go dX0_forks_80 rfl rfl
theorem wX0_forks_82 : E_ d mX0_forks 82 ls st h = E_ d mX0_forks 84 ls (.int (nI 100) :: st) h := e_bipush dX0_forks_82 kbipush_100 rfl
theorem wX0_forks_84 : E_ d mX0_forks 84 ls (.int y :: .int x :: st) h = if x = y then E_ d mX0_forks 87 ls st h else E_ d mX0_forks 91 ls st h := e_ine dX0_forks_84 rfl rfl
theorem wX0_forks_87 : E_ d mX0_forks 87 ls st h = E_ d mX0_forks 88 ls (.int (nI 2) :: st) h := e_iconst dX0_forks_87 kiconst_2 rfl
theorem wX0_forks_88 : E_ d mX0_forks 88 ls st h = E_ d mX0_forks 92 ls st h := e_gt dX0_forks_88 rfl
theorem wX0_forks_91 : E_ d mX0_forks 91 ls st h = E_ d mX0_forks 92 ls (.int (nI 1) :: st) h := e_iconst dX0_forks_91 kiconst_1 rfl
theorem wX0_forks_92 (ht : oT h a = 40) (hi : xix x (oN h a) = true) : E_ d mX0_forks 92 ls (.int y :: .int x :: .ref a :: st) h = E_ d mX0_forks 93 ls st (pI h a (va_up (oI h a) x.toNatClampNeg y)) := e_iast dX0_forks_92 rfl ht hi
theorem wX0_forks_93 : E_ d mX0_forks 93 [s0, s1, s2, s3, s4, s5, s6, s7, s8, s9, .val (.int x)] st h = E_ d mX0_forks 95 [s0, s1, s2, s3, s4, s5, s6, s7, s8, s9, .val (.int x)] (.int x :: st) h := e_go dX0_forks_93 rfl rfl
theorem wX0_forks_95 : E_ d mX0_forks 95 ls (.int x :: st) h = if 0 < x then E_ d mX0_forks 98 ls st h else E_ d mX0_forks 164 ls st h := e_zle dX0_forks_95 rfl rfl
theorem wX0_forks_98 : E_ d mX0_forks 98 [s0, s1, s2, s3, s4, s5, s6, s7, s8, s9, .val (.int x)] st h = E_ d mX0_forks 100 [s0, s1, s2, s3, s4, s5, s6, s7, s8, s9, .val (.int x)] (.int x :: st) h := e_go dX0_forks_98 rfl rfl
theorem wX0_forks_100 : E_ d mX0_forks 100 ls st h = E_ d mX0_forks 102 ls (.int (nI 100) :: st) h := e_bipush dX0_forks_100 kbipush_100 rfl
theorem wX0_forks_102 : E_ d mX0_forks 102 ls (.int y :: .int x :: st) h = if x < y then E_ d mX0_forks 105 ls st h else E_ d mX0_forks 164 ls st h := e_ige dX0_forks_102 rfl rfl
theorem wX0_forks_105 : E_ d mX0_forks 105 [.val (.ref a), s1, s2, s3, s4, s5, s6, s7, s8, s9, s10] st h = E_ d mX0_forks 106 [.val (.ref a), s1, s2, s3, s4, s5, s6, s7, s8, s9, s10] (.ref a :: st) h := e_go dX0_forks_105 rfl rfl
theorem wX0_forks_106 (ht : oT h a = 1) : E_ d mX0_forks 106 ls (.ref a :: st) h = E_ d mX0_forks 109 ls (va_rf (oR h a 9) :: st) h := e_getR0 dX0_forks_106 rfl rfl ht
theorem wX0_forks_109 : E_ d mX0_forks 109 [s0, .val (.int x), s2, s3, s4, s5, s6, s7, s8, s9, s10] st h = E_ d mX0_forks 110 [s0, .val (.int x), s2, s3, s4, s5, s6, s7, s8, s9, s10] (.int x :: st) h := e_go dX0_forks_109 rfl rfl
theorem wX0_forks_110 : E_ d mX0_forks 110 ls st h = E_ d mX0_forks 111 ls (.int (nI 1) :: st) h := e_iconst dX0_forks_110 kiconst_1 rfl
theorem wX0_forks_111 : E_ d mX0_forks 111 ls (.int y :: .int x :: st) h = E_ d mX0_forks 112 ls (.int (x + y) :: st) h := e_go dX0_forks_111 rfl rfl
theorem wX0_forks_112 (ht : 45 ≤ oT h a ∧ oT h a ≤ 48) (hi : xix x (oN h a) = true) : E_ d mX0_forks 112 ls (.int x :: .ref a :: st) h = E_ d mX0_forks 113 ls (va_rf (oR h a x.toNatClampNeg) :: st) h := e_aald dX0_forks_112 rfl ht hi
theorem wX0_forks_113 : E_ d mX0_forks 113 [s0, s1, s2, s3, s4, .val (.ref a), s6, s7, s8, s9, s10] st h = E_ d mX0_forks 115 [s0, s1, s2, s3, s4, .val (.ref a), s6, s7, s8, s9, s10] (.ref a :: st) h := e_go dX0_forks_113 rfl rfl
theorem wX0_forks_115 (ht : oT h a = 5) : E_ (d + 1) mX0_forks 115 ls [.ref r1, .ref a] h = (C_ d mX3_be [.ref a, .ref r1] h).bind fun r => E_ (d + 1) mX0_forks 118 ls (xpu r.1 []) r.2 := e_vir dX0_forks_115 rfl rfl rfl rfl rfl rfl (Nat.le_of_ble_eq_true rfl) (Nat.le_of_ble_eq_true rfl) ht
theorem wX0_forks_118 : E_ d mX0_forks 118 [.val (.ref a), s1, s2, s3, s4, s5, s6, s7, s8, s9, s10] st h = E_ d mX0_forks 119 [.val (.ref a), s1, s2, s3, s4, s5, s6, s7, s8, s9, s10] (.ref a :: st) h := e_go dX0_forks_118 rfl rfl
theorem wX0_forks_119 (ht : oT h a = 1) : E_ d mX0_forks 119 ls (.ref a :: st) h = E_ d mX0_forks 122 ls (va_rf (oR h a 9) :: st) h := e_getR0 dX0_forks_119 rfl rfl ht
theorem wX0_forks_122 : E_ d mX0_forks 122 [s0, .val (.int x), s2, s3, s4, s5, s6, s7, s8, s9, s10] st h = E_ d mX0_forks 123 [s0, .val (.int x), s2, s3, s4, s5, s6, s7, s8, s9, s10] (.int x :: st) h := e_go dX0_forks_122 rfl rfl
theorem wX0_forks_123 : E_ d mX0_forks 123 ls st h = E_ d mX0_forks 124 ls (.int (nI 1) :: st) h := e_iconst dX0_forks_123 kiconst_1 rfl
theorem wX0_forks_124 : E_ d mX0_forks 124 ls (.int y :: .int x :: st) h = E_ d mX0_forks 125 ls (.int (x + y) :: st) h := e_go dX0_forks_124 rfl rfl
theorem wX0_forks_125 (ht : 45 ≤ oT h a ∧ oT h a ≤ 48) (hi : xix x (oN h a) = true) : E_ d mX0_forks 125 ls (.int x :: .ref a :: st) h = E_ d mX0_forks 126 ls (va_rf (oR h a x.toNatClampNeg) :: st) h := e_aald dX0_forks_125 rfl ht hi
theorem wX0_forks_126 (ht : oT h a = 5) : E_ d mX0_forks 126 ls (.ref a :: st) h = E_ d mX0_forks 129 ls (va_rf (oR h a 2) :: st) h := e_getR0 dX0_forks_126 rfl rfl ht
theorem wX0_forks_129 : E_ d mX0_forks 129 [s0, s1, s2, s3, s4, s5, s6, s7, s8, .val (.int x), s10] st h = E_ d mX0_forks 131 [s0, s1, s2, s3, s4, s5, s6, s7, s8, .val (.int x), s10] (.int x :: st) h := e_go dX0_forks_129 rfl rfl
theorem wX0_forks_131 : E_ d mX0_forks 131 ls st h = E_ d mX0_forks 132 ls (.int (nI 2) :: st) h := e_iconst dX0_forks_131 kiconst_2 rfl
theorem wX0_forks_132 (ht : oT h a = 40) (hi : xix x (oN h a) = true) : E_ d mX0_forks 132 ls (.int y :: .int x :: .ref a :: st) h = E_ d mX0_forks 133 ls st (pI h a (va_up (oI h a) x.toNatClampNeg y)) := e_iast dX0_forks_132 rfl ht hi
theorem wX0_forks_133 : E_ d mX0_forks 133 [.val (.ref a), s1, s2, s3, s4, s5, s6, s7, s8, s9, s10] st h = E_ d mX0_forks 134 [.val (.ref a), s1, s2, s3, s4, s5, s6, s7, s8, s9, s10] (.ref a :: st) h := e_go dX0_forks_133 rfl rfl
theorem wX0_forks_134 : E_ d mX0_forks 134 [s0, .val (.int x), s2, s3, s4, s5, s6, s7, s8, s9, s10] st h = E_ d mX0_forks 135 [s0, .val (.int x), s2, s3, s4, s5, s6, s7, s8, s9, s10] (.int x :: st) h := e_go dX0_forks_134 rfl rfl
theorem wX0_forks_135 : E_ d mX0_forks 135 ls st h = E_ d mX0_forks 136 ls (.int (nI 1) :: st) h := e_iconst dX0_forks_135 kiconst_1 rfl
theorem wX0_forks_136 : E_ d mX0_forks 136 ls (.int y :: .int x :: st) h = E_ d mX0_forks 137 ls (.int (x + y) :: st) h := e_go dX0_forks_136 rfl rfl
theorem wX0_forks_137 : E_ d mX0_forks 137 [s0, s1, s2, s3, s4, s5, s6, s7, s8, .val (.int x), s10] st h = E_ d mX0_forks 139 [s0, s1, s2, s3, s4, s5, s6, s7, s8, .val (.int x), s10] (.int x :: st) h := e_go dX0_forks_137 rfl rfl
theorem wX0_forks_139 : E_ d mX0_forks 139 ls st h = E_ d mX0_forks 140 ls (.int (nI 1) :: st) h := e_iconst dX0_forks_139 kiconst_1 rfl
theorem wX0_forks_140 : E_ d mX0_forks 140 ls (.int y :: .int x :: st) h = E_ d mX0_forks 141 ls (.int (x + y) :: st) h := e_go dX0_forks_140 rfl rfl
theorem wX0_forks_141 : E_ d mX0_forks 141 [s0, s1, s2, s3, s4, s5, .val (.long u), s7, s8, s9, s10] st h = E_ d mX0_forks 143 [s0, s1, s2, s3, s4, s5, .val (.long u), s7, s8, s9, s10] (.long u :: st) h := e_go dX0_forks_141 rfl rfl
theorem wX0_forks_143 : E_ d mX0_forks 143 [s0, s1, s2, s3, s4, s5, s6, s7, s8, s9, .val (.int x)] st h = E_ d mX0_forks 145 [s0, s1, s2, s3, s4, s5, s6, s7, s8, s9, .val (.int x)] (.int x :: st) h := e_go dX0_forks_143 rfl rfl
theorem wX0_forks_145 : E_ d mX0_forks 145 ls (.int x :: st) h = E_ d mX0_forks 146 ls (.long x.toInt64 :: st) h := e_go dX0_forks_145 rfl rfl
theorem wX0_forks_146 : E_ d mX0_forks 146 ls (.long v :: .long u :: st) h = E_ d mX0_forks 147 ls (.long (u * v) :: st) h := e_go dX0_forks_146 rfl rfl
theorem wX0_forks_147 (ht : oT h a = 1) : E_ (d + 1) mX0_forks 147 ls [.long u1, .int x2, .int x1, .ref a] h = (C_ d mX0_forks [.ref a, .int x1, .int x2, .long u1] h).bind fun r => E_ (d + 1) mX0_forks 150 ls (xpu r.1 []) r.2 := e_vir dX0_forks_147 rfl rfl rfl rfl rfl rfl (Nat.le_of_ble_eq_true rfl) (Nat.le_of_ble_eq_true rfl) ht
theorem wX0_forks_150 : E_ d mX0_forks 150 [s0, s1, s2, s3, s4, s5, .val (.long u), s7, s8, s9, s10] st h = E_ d mX0_forks 152 [s0, s1, s2, s3, s4, s5, .val (.long u), s7, s8, s9, s10] (.long u :: st) h := e_go dX0_forks_150 rfl rfl
theorem wX0_forks_152 : E_ d mX0_forks 152 ls st h = E_ d mX0_forks 154 ls (.int (nI 100) :: st) h := e_bipush dX0_forks_152 kbipush_100 rfl
theorem wX0_forks_154 : E_ d mX0_forks 154 [s0, s1, s2, s3, s4, s5, s6, s7, s8, s9, .val (.int x)] st h = E_ d mX0_forks 156 [s0, s1, s2, s3, s4, s5, s6, s7, s8, s9, .val (.int x)] (.int x :: st) h := e_go dX0_forks_154 rfl rfl
theorem wX0_forks_156 : E_ d mX0_forks 156 ls (.int y :: .int x :: st) h = E_ d mX0_forks 157 ls (.int (x - y) :: st) h := e_go dX0_forks_156 rfl rfl
theorem wX0_forks_157 : E_ d mX0_forks 157 ls (.int x :: st) h = E_ d mX0_forks 158 ls (.long x.toInt64 :: st) h := e_go dX0_forks_157 rfl rfl
theorem wX0_forks_158 : E_ d mX0_forks 158 ls (.long v :: .long u :: st) h = E_ d mX0_forks 159 ls (.long (u * v) :: st) h := e_go dX0_forks_158 rfl rfl
theorem wX0_forks_159 : E_ d mX0_forks 159 [s0, s1, s2, s3, s4, s5, s6, s7, s8, s9, s10] (.long u :: st) h = E_ d mX0_forks 161 [s0, s1, s2, s3, s4, xk s5, .val (.long u), .unset, s8, s9, s10] st h := e_go dX0_forks_159 rfl rfl
theorem wX0_forks_161 : E_ d mX0_forks 161 ls st h = E_ d mX0_forks 172 ls st h := e_gt dX0_forks_161 rfl
theorem wX0_forks_164 : E_ d mX0_forks 164 [s0, s1, s2, s3, s4, s5, .val (.long u), s7, s8, s9, s10] st h = E_ d mX0_forks 166 [s0, s1, s2, s3, s4, s5, .val (.long u), s7, s8, s9, s10] (.long u :: st) h := e_go dX0_forks_164 rfl rfl
theorem wX0_forks_166 : E_ d mX0_forks 166 ls st h = E_ d mX0_forks 169 ls (.long (100) :: st) h := e_go dX0_forks_166 rfl rfl
theorem wX0_forks_169 : E_ d mX0_forks 169 ls (.long v :: .long u :: st) h = E_ d mX0_forks 170 ls (.long (u * v) :: st) h := e_go dX0_forks_169 rfl rfl
theorem wX0_forks_170 : E_ d mX0_forks 170 [s0, s1, s2, s3, s4, s5, s6, s7, s8, s9, s10] (.long u :: st) h = E_ d mX0_forks 172 [s0, s1, s2, s3, s4, xk s5, .val (.long u), .unset, s8, s9, s10] st h := e_go dX0_forks_170 rfl rfl
theorem wX0_forks_172 : E_ d mX0_forks 172 [s0, s1, s2, s3, s4, s5, s6, s7, s8, .val (.int x), s10] st h = E_ d mX0_forks 175 [s0, s1, s2, s3, s4, s5, s6, s7, xk s8, .val (.int (x + nI 1)), s10] st h := by rw [← kiinc_1]; exact e_go dX0_forks_172 rfl rfl
theorem wX0_forks_175 : E_ d mX0_forks 175 ls st h = E_ d mX0_forks 26 ls st h := e_gt dX0_forks_175 rfl
theorem wX0_forks_178 : E_ d mX0_forks 178 ls st h = E_ d mX0_forks 179 ls (.int (nI 0) :: st) h := e_iconst dX0_forks_178 kiconst_0 rfl
theorem wX0_forks_179 : E_ d mX0_forks 179 [s0, s1, s2, s3, s4, s5, s6, s7, s8, s9, s10] (.int x :: st) h = E_ d mX0_forks 181 [s0, s1, s2, s3, s4, s5, s6, xk s7, .val (.int x), s9, s10] st h := e_go dX0_forks_179 rfl rfl
theorem wX0_forks_181 : E_ d mX0_forks 181 [s0, s1, s2, s3, s4, .val (.ref a), s6, s7, s8, s9, s10] st h = E_ d mX0_forks 183 [s0, s1, s2, s3, s4, .val (.ref a), s6, s7, s8, s9, s10] (.ref a :: st) h := e_go dX0_forks_181 rfl rfl
theorem wX0_forks_183 (ht : oT h a = 5) : E_ (d + 1) mX0_forks 183 ls [.ref a] h = (C_ d mX3_goesOn [.ref a] h).bind fun r => E_ (d + 1) mX0_forks 186 ls (xpu r.1 []) r.2 := e_vir dX0_forks_183 rfl rfl rfl rfl rfl rfl (Nat.le_of_ble_eq_true rfl) (Nat.le_of_ble_eq_true rfl) ht
theorem wX0_forks_186 : E_ d mX0_forks 186 ls st h = E_ d mX0_forks 14 ls st h := e_gt dX0_forks_186 rfl
theorem wX0_forks_189 : E_ d mX0_forks 189 [.val (.ref a), s1, s2, s3, s4, s5, s6, s7, s8, s9, s10] st h = E_ d mX0_forks 190 [.val (.ref a), s1, s2, s3, s4, s5, s6, s7, s8, s9, s10] (.ref a :: st) h := e_go dX0_forks_189 rfl rfl
theorem wX0_forks_190 : E_ d mX0_forks 190 [s0, s1, s2, s3, s4, .val (.ref a), s6, s7, s8, s9, s10] st h = E_ d mX0_forks 192 [s0, s1, s2, s3, s4, .val (.ref a), s6, s7, s8, s9, s10] (.ref a :: st) h := e_go dX0_forks_190 rfl rfl
theorem wX0_forks_192 : E_ d mX0_forks 192 [s0, s1, s2, s3, s4, s5, .val (.long u), s7, s8, s9, s10] st h = E_ d mX0_forks 194 [s0, s1, s2, s3, s4, s5, .val (.long u), s7, s8, s9, s10] (.long u :: st) h := e_go dX0_forks_192 rfl rfl
theorem wX0_forks_194 (ht : oT h a = 1) : E_ (d + 1) mX0_forks 194 ls [.long u1, .ref r1, .ref a] h = (C_ d mX0_counts [.ref a, .ref r1, .long u1] h).bind fun r => E_ (d + 1) mX0_forks 197 ls (xpu r.1 []) r.2 := e_vir dX0_forks_194 rfl rfl rfl rfl rfl rfl (Nat.le_of_ble_eq_true rfl) (Nat.le_of_ble_eq_true rfl) ht
theorem wX0_forks_197 : E_ d mX0_forks 197 ls [] h = some (none, h) := e_rt dX0_forks_197 rfl rfl
/-! FootOut.counts -/
theorem wX0_counts_0 : E_ d mX0_counts 0 [s0, s1, .val (.long u), s3, s4, s5, s6] st h = E_ d mX0_counts 1 [s0, s1, .val (.long u), s3, s4, s5, s6] (.long u :: st) h := e_go dX0_counts_0 rfl rfl
theorem wX0_counts_1 : E_ d mX0_counts 1 [s0, s1, s2, s3, s4, s5, s6] (.long u :: st) h = E_ d mX0_counts 3 [s0, s1, s2, xk s3, .val (.long u), .unset, s6] st h := e_go dX0_counts_1 rfl rfl
theorem wX0_counts_3 : E_ d mX0_counts 3 ls st h = E_ d mX0_counts 4 ls (.int (nI 0) :: st) h := e_iconst dX0_counts_3 kiconst_0 rfl
theorem wX0_counts_4 : E_ d mX0_counts 4 [s0, s1, s2, s3, s4, s5, s6] (.int x :: st) h = E_ d mX0_counts 6 [s0, s1, s2, s3, s4, xk s5, .val (.int x)] st h := e_go dX0_counts_4 rfl rfl
theorem wX0_counts_6 : E_ d mX0_counts 6 [s0, s1, s2, s3, s4, s5, .val (.int x)] st h = E_ d mX0_counts 8 [s0, s1, s2, s3, s4, s5, .val (.int x)] (.int x :: st) h := e_go dX0_counts_6 rfl rfl
theorem wX0_counts_8 : E_ d mX0_counts 8 [s0, .val (.ref a), s2, s3, s4, s5, s6] st h = E_ d mX0_counts 9 [s0, .val (.ref a), s2, s3, s4, s5, s6] (.ref a :: st) h := e_go dX0_counts_8 rfl rfl
theorem wX0_counts_9 (ht : oT h a = 5) : E_ (d + 1) mX0_counts 9 ls [.ref a, .int x1] h = (C_ d mX3_many [.ref a] h).bind fun r => E_ (d + 1) mX0_counts 12 ls (xpu r.1 [.int x1]) r.2 := e_vir dX0_counts_9 rfl rfl rfl rfl rfl rfl (Nat.le_of_ble_eq_true rfl) (Nat.le_of_ble_eq_true rfl) ht
theorem wX0_counts_12 : E_ d mX0_counts 12 ls (.int y :: .int x :: st) h = if x < y then E_ d mX0_counts 15 ls st h else E_ d mX0_counts 43 ls st h := e_ige dX0_counts_12 rfl rfl
theorem wX0_counts_15 : E_ d mX0_counts 15 [s0, s1, s2, s3, .val (.long u), s5, s6] st h = E_ d mX0_counts 17 [s0, s1, s2, s3, .val (.long u), s5, s6] (.long u :: st) h := e_go dX0_counts_15 rfl rfl
theorem wX0_counts_17 : E_ d mX0_counts 17 [s0, .val (.ref a), s2, s3, s4, s5, s6] st h = E_ d mX0_counts 18 [s0, .val (.ref a), s2, s3, s4, s5, s6] (.ref a :: st) h := e_go dX0_counts_17 rfl rfl
theorem wX0_counts_18 (ht : oT h a = 5) : E_ d mX0_counts 18 ls (.ref a :: st) h = E_ d mX0_counts 21 ls (va_rf (oR h a 2) :: st) h := e_getR0 dX0_counts_18 rfl rfl ht
theorem wX0_counts_21 : E_ d mX0_counts 21 [s0, s1, s2, s3, s4, s5, .val (.int x)] st h = E_ d mX0_counts 23 [s0, s1, s2, s3, s4, s5, .val (.int x)] (.int x :: st) h := e_go dX0_counts_21 rfl rfl
theorem wX0_counts_23 (ht : oT h a = 40) (hi : xix x (oN h a) = true) : E_ d mX0_counts 23 ls (.int x :: .ref a :: st) h = E_ d mX0_counts 24 ls (.int (oI h a x.toNatClampNeg) :: st) h := e_iald dX0_counts_23 rfl ht hi
theorem wX0_counts_24 : E_ d mX0_counts 24 ls (.int x :: st) h = if x = 0 then E_ d mX0_counts 27 ls st h else E_ d mX0_counts 33 ls st h := e_zne dX0_counts_24 rfl rfl
theorem wX0_counts_27 : E_ d mX0_counts 27 ls st h = E_ d mX0_counts 30 ls (.long (100) :: st) h := e_go dX0_counts_27 rfl rfl
theorem wX0_counts_30 : E_ d mX0_counts 30 ls st h = E_ d mX0_counts 34 ls st h := e_gt dX0_counts_30 rfl
theorem wX0_counts_33 : E_ d mX0_counts 33 ls st h = E_ d mX0_counts 34 ls (.long 1 :: st) h := e_go dX0_counts_33 rfl rfl
theorem wX0_counts_34 : E_ d mX0_counts 34 ls (.long v :: .long u :: st) h = E_ d mX0_counts 35 ls (.long (u * v) :: st) h := e_go dX0_counts_34 rfl rfl
theorem wX0_counts_35 : E_ d mX0_counts 35 [s0, s1, s2, s3, s4, s5, s6] (.long u :: st) h = E_ d mX0_counts 37 [s0, s1, s2, xk s3, .val (.long u), .unset, s6] st h := e_go dX0_counts_35 rfl rfl
theorem wX0_counts_37 : E_ d mX0_counts 37 [s0, s1, s2, s3, s4, s5, .val (.int x)] st h = E_ d mX0_counts 40 [s0, s1, s2, s3, s4, xk s5, .val (.int (x + nI 1))] st h := by rw [← kiinc_1]; exact e_go dX0_counts_37 rfl rfl
theorem wX0_counts_40 : E_ d mX0_counts 40 ls st h = E_ d mX0_counts 6 ls st h := e_gt dX0_counts_40 rfl
theorem wX0_counts_43 : E_ d mX0_counts 43 [.val (.ref a), s1, s2, s3, s4, s5, s6] st h = E_ d mX0_counts 44 [.val (.ref a), s1, s2, s3, s4, s5, s6] (.ref a :: st) h := e_go dX0_counts_43 rfl rfl
theorem wX0_counts_44 (ht : oT h a = 1) : E_ d mX0_counts 44 ls (.ref a :: st) h = E_ d mX0_counts 47 ls (va_rf (oR h a 10) :: st) h := e_getR0 dX0_counts_44 rfl rfl ht
theorem wX0_counts_47 : E_ d mX0_counts 47 [s0, .val (.ref a), s2, s3, s4, s5, s6] st h = E_ d mX0_counts 48 [s0, .val (.ref a), s2, s3, s4, s5, s6] (.ref a :: st) h := e_go dX0_counts_47 rfl rfl
theorem wX0_counts_48 (ht : oT h a = 5) : E_ d mX0_counts 48 ls (.ref a :: st) h = E_ d mX0_counts 51 ls (.int (oI h a 10) :: st) h := e_getI dX0_counts_48 rfl rfl ht
theorem wX0_counts_51 : E_ d mX0_counts 51 ls st h = E_ d mX0_counts 52 ls (.int (nI 1) :: st) h := e_iconst dX0_counts_51 kiconst_1 rfl
theorem wX0_counts_52 : E_ d mX0_counts 52 ls (.int y :: .int x :: st) h = E_ d mX0_counts 53 ls (.int (x - y) :: st) h := e_go dX0_counts_52 rfl rfl
theorem wX0_counts_53 : E_ d mX0_counts 53 ls (.int x :: .ref b :: st) h = E_ d mX0_counts 54 ls (.int x :: .ref b :: .int x :: .ref b :: st) h := e_go dX0_counts_53 rfl rfl
theorem wX0_counts_54 (ht : oT h a = 44) (hi : xix x (oN h a) = true) : E_ d mX0_counts 54 ls (.int x :: .ref a :: st) h = E_ d mX0_counts 55 ls (.long (oL h a x.toNatClampNeg) :: st) h := e_lald dX0_counts_54 rfl ht hi
theorem wX0_counts_55 : E_ d mX0_counts 55 [s0, s1, s2, s3, .val (.long u), s5, s6] st h = E_ d mX0_counts 57 [s0, s1, s2, s3, .val (.long u), s5, s6] (.long u :: st) h := e_go dX0_counts_55 rfl rfl
theorem wX0_counts_57 : E_ d mX0_counts 57 ls (.long v :: .long u :: st) h = E_ d mX0_counts 58 ls (.long (u + v) :: st) h := e_go dX0_counts_57 rfl rfl
theorem wX0_counts_58 (ht : oT h a = 44) (hi : xix x (oN h a) = true) : E_ d mX0_counts 58 ls (.long u :: .int x :: .ref a :: st) h = E_ d mX0_counts 59 ls st (pL h a (va_up (oL h a) x.toNatClampNeg u)) := e_last dX0_counts_58 rfl ht hi
theorem wX0_counts_59 : E_ d mX0_counts 59 [.val (.ref a), s1, s2, s3, s4, s5, s6] st h = E_ d mX0_counts 60 [.val (.ref a), s1, s2, s3, s4, s5, s6] (.ref a :: st) h := e_go dX0_counts_59 rfl rfl
theorem wX0_counts_60 (ht : oT h a = 1) : E_ d mX0_counts 60 ls (.ref a :: st) h = E_ d mX0_counts 63 ls (va_rf (oR h a 10) :: st) h := e_getR0 dX0_counts_60 rfl rfl ht
theorem wX0_counts_63 : E_ d mX0_counts 63 ls st h = E_ d mX0_counts 64 ls (.int (nI 3) :: st) h := e_iconst dX0_counts_63 kiconst_3 rfl
theorem wX0_counts_64 : E_ d mX0_counts 64 ls (.int x :: .ref b :: st) h = E_ d mX0_counts 65 ls (.int x :: .ref b :: .int x :: .ref b :: st) h := e_go dX0_counts_64 rfl rfl
theorem wX0_counts_65 (ht : oT h a = 44) (hi : xix x (oN h a) = true) : E_ d mX0_counts 65 ls (.int x :: .ref a :: st) h = E_ d mX0_counts 66 ls (.long (oL h a x.toNatClampNeg) :: st) h := e_lald dX0_counts_65 rfl ht hi
theorem wX0_counts_66 : E_ d mX0_counts 66 [s0, s1, s2, s3, .val (.long u), s5, s6] st h = E_ d mX0_counts 68 [s0, s1, s2, s3, .val (.long u), s5, s6] (.long u :: st) h := e_go dX0_counts_66 rfl rfl
theorem wX0_counts_68 : E_ d mX0_counts 68 [s0, .val (.ref a), s2, s3, s4, s5, s6] st h = E_ d mX0_counts 69 [s0, .val (.ref a), s2, s3, s4, s5, s6] (.ref a :: st) h := e_go dX0_counts_68 rfl rfl
theorem wX0_counts_69 (ht : oT h a = 5) : E_ d mX0_counts 69 ls (.ref a :: st) h = E_ d mX0_counts 72 ls (.int (oI h a 9) :: st) h := e_getI dX0_counts_69 rfl rfl ht
theorem wX0_counts_72 : E_ d mX0_counts 72 ls (.int x :: st) h = E_ d mX0_counts 73 ls (.long x.toInt64 :: st) h := e_go dX0_counts_72 rfl rfl
theorem wX0_counts_73 : E_ d mX0_counts 73 ls (.long v :: .long u :: st) h = E_ d mX0_counts 74 ls (.long (u * v) :: st) h := e_go dX0_counts_73 rfl rfl
theorem wX0_counts_74 : E_ d mX0_counts 74 ls (.long v :: .long u :: st) h = E_ d mX0_counts 75 ls (.long (u + v) :: st) h := e_go dX0_counts_74 rfl rfl
theorem wX0_counts_75 (ht : oT h a = 44) (hi : xix x (oN h a) = true) : E_ d mX0_counts 75 ls (.long u :: .int x :: .ref a :: st) h = E_ d mX0_counts 76 ls st (pL h a (va_up (oL h a) x.toNatClampNeg u)) := e_last dX0_counts_75 rfl ht hi
theorem wX0_counts_76 : E_ d mX0_counts 76 [.val (.ref a), s1, s2, s3, s4, s5, s6] st h = E_ d mX0_counts 77 [.val (.ref a), s1, s2, s3, s4, s5, s6] (.ref a :: st) h := e_go dX0_counts_76 rfl rfl
theorem wX0_counts_77 (ht : oT h a = 1) : E_ d mX0_counts 77 ls (.ref a :: st) h = E_ d mX0_counts 80 ls (va_rf (oR h a 10) :: st) h := e_getR0 dX0_counts_77 rfl rfl ht
theorem wX0_counts_80 : E_ d mX0_counts 80 ls st h = E_ d mX0_counts 81 ls (.int (nI 4) :: st) h := e_iconst dX0_counts_80 kiconst_4 rfl
theorem wX0_counts_81 : E_ d mX0_counts 81 ls (.int x :: .ref b :: st) h = E_ d mX0_counts 82 ls (.int x :: .ref b :: .int x :: .ref b :: st) h := e_go dX0_counts_81 rfl rfl
theorem wX0_counts_82 (ht : oT h a = 44) (hi : xix x (oN h a) = true) : E_ d mX0_counts 82 ls (.int x :: .ref a :: st) h = E_ d mX0_counts 83 ls (.long (oL h a x.toNatClampNeg) :: st) h := e_lald dX0_counts_82 rfl ht hi
theorem wX0_counts_83 : E_ d mX0_counts 83 [s0, s1, s2, s3, .val (.long u), s5, s6] st h = E_ d mX0_counts 85 [s0, s1, s2, s3, .val (.long u), s5, s6] (.long u :: st) h := e_go dX0_counts_83 rfl rfl
theorem wX0_counts_85 : E_ d mX0_counts 85 [s0, .val (.ref a), s2, s3, s4, s5, s6] st h = E_ d mX0_counts 86 [s0, .val (.ref a), s2, s3, s4, s5, s6] (.ref a :: st) h := e_go dX0_counts_85 rfl rfl
theorem wX0_counts_86 (ht : oT h a = 5) : E_ d mX0_counts 86 ls (.ref a :: st) h = E_ d mX0_counts 89 ls (.int (oI h a 12) :: st) h := e_getI dX0_counts_86 rfl rfl ht
theorem wX0_counts_89 : E_ d mX0_counts 89 ls (.int x :: st) h = E_ d mX0_counts 90 ls (.long x.toInt64 :: st) h := e_go dX0_counts_89 rfl rfl
theorem wX0_counts_90 : E_ d mX0_counts 90 ls (.long v :: .long u :: st) h = E_ d mX0_counts 91 ls (.long (u * v) :: st) h := e_go dX0_counts_90 rfl rfl
theorem wX0_counts_91 : E_ d mX0_counts 91 ls (.long v :: .long u :: st) h = E_ d mX0_counts 92 ls (.long (u + v) :: st) h := e_go dX0_counts_91 rfl rfl
theorem wX0_counts_92 (ht : oT h a = 44) (hi : xix x (oN h a) = true) : E_ d mX0_counts 92 ls (.long u :: .int x :: .ref a :: st) h = E_ d mX0_counts 93 ls st (pL h a (va_up (oL h a) x.toNatClampNeg u)) := e_last dX0_counts_92 rfl ht hi
theorem wX0_counts_93 : E_ d mX0_counts 93 [.val (.ref a), s1, s2, s3, s4, s5, s6] st h = E_ d mX0_counts 94 [.val (.ref a), s1, s2, s3, s4, s5, s6] (.ref a :: st) h := e_go dX0_counts_93 rfl rfl
theorem wX0_counts_94 (ht : oT h a = 1) : E_ d mX0_counts 94 ls (.ref a :: st) h = E_ d mX0_counts 97 ls (va_rf (oR h a 10) :: st) h := e_getR0 dX0_counts_94 rfl rfl ht
theorem wX0_counts_97 : E_ d mX0_counts 97 ls st h = E_ d mX0_counts 98 ls (.int (nI 5) :: st) h := e_iconst dX0_counts_97 kiconst_5 rfl
theorem wX0_counts_98 : E_ d mX0_counts 98 ls (.int x :: .ref b :: st) h = E_ d mX0_counts 99 ls (.int x :: .ref b :: .int x :: .ref b :: st) h := e_go dX0_counts_98 rfl rfl
theorem wX0_counts_99 (ht : oT h a = 44) (hi : xix x (oN h a) = true) : E_ d mX0_counts 99 ls (.int x :: .ref a :: st) h = E_ d mX0_counts 100 ls (.long (oL h a x.toNatClampNeg) :: st) h := e_lald dX0_counts_99 rfl ht hi
theorem wX0_counts_100 : E_ d mX0_counts 100 [s0, s1, s2, s3, .val (.long u), s5, s6] st h = E_ d mX0_counts 102 [s0, s1, s2, s3, .val (.long u), s5, s6] (.long u :: st) h := e_go dX0_counts_100 rfl rfl
theorem wX0_counts_102 : E_ d mX0_counts 102 ls (.long v :: .long u :: st) h = E_ d mX0_counts 103 ls (.long (u + v) :: st) h := e_go dX0_counts_102 rfl rfl
theorem wX0_counts_103 (ht : oT h a = 44) (hi : xix x (oN h a) = true) : E_ d mX0_counts 103 ls (.long u :: .int x :: .ref a :: st) h = E_ d mX0_counts 104 ls st (pL h a (va_up (oL h a) x.toNatClampNeg u)) := e_last dX0_counts_103 rfl ht hi
theorem wX0_counts_104 : E_ d mX0_counts 104 [s0, .val (.ref a), s2, s3, s4, s5, s6] st h = E_ d mX0_counts 105 [s0, .val (.ref a), s2, s3, s4, s5, s6] (.ref a :: st) h := e_go dX0_counts_104 rfl rfl
theorem wX0_counts_105 (ht : oT h a = 5) : E_ d mX0_counts 105 ls (.ref a :: st) h = E_ d mX0_counts 108 ls (.int (oI h a 11) :: st) h := e_getI dX0_counts_105 rfl rfl ht
theorem wX0_counts_108 : E_ d mX0_counts 108 ls st h = E_ d mX0_counts 109 ls (.int ((-1)) :: st) h := e_iconst dX0_counts_108 kiconst_m1 rfl
theorem wX0_counts_109 : E_ d mX0_counts 109 ls (.int y :: .int x :: st) h = if x = y then E_ d mX0_counts 126 ls st h else E_ d mX0_counts 112 ls st h := e_ieq dX0_counts_109 rfl rfl
theorem wX0_counts_112 : E_ d mX0_counts 112 [.val (.ref a), s1, s2, s3, s4, s5, s6] st h = E_ d mX0_counts 113 [.val (.ref a), s1, s2, s3, s4, s5, s6] (.ref a :: st) h := e_go dX0_counts_112 rfl rfl
theorem wX0_counts_113 (ht : oT h a = 1) : E_ d mX0_counts 113 ls (.ref a :: st) h = E_ d mX0_counts 116 ls (va_rf (oR h a 11) :: st) h := e_getR0 dX0_counts_113 rfl rfl ht
theorem wX0_counts_116 : E_ d mX0_counts 116 [s0, .val (.ref a), s2, s3, s4, s5, s6] st h = E_ d mX0_counts 117 [s0, .val (.ref a), s2, s3, s4, s5, s6] (.ref a :: st) h := e_go dX0_counts_116 rfl rfl
theorem wX0_counts_117 (ht : oT h a = 5) : E_ d mX0_counts 117 ls (.ref a :: st) h = E_ d mX0_counts 120 ls (.int (oI h a 11) :: st) h := e_getI dX0_counts_117 rfl rfl ht
theorem wX0_counts_120 : E_ d mX0_counts 120 ls (.int x :: .ref b :: st) h = E_ d mX0_counts 121 ls (.int x :: .ref b :: .int x :: .ref b :: st) h := e_go dX0_counts_120 rfl rfl
theorem wX0_counts_121 (ht : oT h a = 44) (hi : xix x (oN h a) = true) : E_ d mX0_counts 121 ls (.int x :: .ref a :: st) h = E_ d mX0_counts 122 ls (.long (oL h a x.toNatClampNeg) :: st) h := e_lald dX0_counts_121 rfl ht hi
theorem wX0_counts_122 : E_ d mX0_counts 122 [s0, s1, s2, s3, .val (.long u), s5, s6] st h = E_ d mX0_counts 124 [s0, s1, s2, s3, .val (.long u), s5, s6] (.long u :: st) h := e_go dX0_counts_122 rfl rfl
theorem wX0_counts_124 : E_ d mX0_counts 124 ls (.long v :: .long u :: st) h = E_ d mX0_counts 125 ls (.long (u + v) :: st) h := e_go dX0_counts_124 rfl rfl
theorem wX0_counts_125 (ht : oT h a = 44) (hi : xix x (oN h a) = true) : E_ d mX0_counts 125 ls (.long u :: .int x :: .ref a :: st) h = E_ d mX0_counts 126 ls st (pL h a (va_up (oL h a) x.toNatClampNeg u)) := e_last dX0_counts_125 rfl ht hi
theorem wX0_counts_126 : E_ d mX0_counts 126 ls st h = E_ d mX0_counts 127 ls (.int (nI 0) :: st) h := e_iconst dX0_counts_126 kiconst_0 rfl
theorem wX0_counts_127 : E_ d mX0_counts 127 [s0, s1, s2, s3, s4, s5, s6] (.int x :: st) h = E_ d mX0_counts 129 [s0, s1, s2, s3, s4, xk s5, .val (.int x)] st h := e_go dX0_counts_127 rfl rfl
theorem wX0_counts_129 : E_ d mX0_counts 129 [s0, s1, s2, s3, s4, s5, .val (.int x)] st h = E_ d mX0_counts 131 [s0, s1, s2, s3, s4, s5, .val (.int x)] (.int x :: st) h := e_go dX0_counts_129 rfl rfl
theorem wX0_counts_131 : E_ d mX0_counts 131 [s0, .val (.ref a), s2, s3, s4, s5, s6] st h = E_ d mX0_counts 132 [s0, .val (.ref a), s2, s3, s4, s5, s6] (.ref a :: st) h := e_go dX0_counts_131 rfl rfl
theorem wX0_counts_132 (ht : oT h a = 5) : E_ (d + 1) mX0_counts 132 ls [.ref a, .int x1] h = (C_ d mX3_many [.ref a] h).bind fun r => E_ (d + 1) mX0_counts 135 ls (xpu r.1 [.int x1]) r.2 := e_vir dX0_counts_132 rfl rfl rfl rfl rfl rfl (Nat.le_of_ble_eq_true rfl) (Nat.le_of_ble_eq_true rfl) ht
theorem wX0_counts_135 : E_ d mX0_counts 135 ls (.int y :: .int x :: st) h = if x < y then E_ d mX0_counts 138 ls st h else E_ d mX0_counts 171 ls st h := e_ige dX0_counts_135 rfl rfl
theorem wX0_counts_138 : E_ d mX0_counts 138 [.val (.ref a), s1, s2, s3, s4, s5, s6] st h = E_ d mX0_counts 139 [.val (.ref a), s1, s2, s3, s4, s5, s6] (.ref a :: st) h := e_go dX0_counts_138 rfl rfl
theorem wX0_counts_139 (ht : oT h a = 1) : E_ d mX0_counts 139 ls (.ref a :: st) h = E_ d mX0_counts 142 ls (va_rf (oR h a 12) :: st) h := e_getR0 dX0_counts_139 rfl rfl ht
theorem wX0_counts_142 : E_ d mX0_counts 142 [s0, s1, s2, s3, s4, s5, .val (.int x)] st h = E_ d mX0_counts 144 [s0, s1, s2, s3, s4, s5, .val (.int x)] (.int x :: st) h := e_go dX0_counts_142 rfl rfl
theorem wX0_counts_144 : E_ d mX0_counts 144 ls (.int x :: .ref b :: st) h = E_ d mX0_counts 145 ls (.int x :: .ref b :: .int x :: .ref b :: st) h := e_go dX0_counts_144 rfl rfl
theorem wX0_counts_145 (ht : oT h a = 44) (hi : xix x (oN h a) = true) : E_ d mX0_counts 145 ls (.int x :: .ref a :: st) h = E_ d mX0_counts 146 ls (.long (oL h a x.toNatClampNeg) :: st) h := e_lald dX0_counts_145 rfl ht hi
theorem wX0_counts_146 : E_ d mX0_counts 146 [s0, .val (.ref a), s2, s3, s4, s5, s6] st h = E_ d mX0_counts 147 [s0, .val (.ref a), s2, s3, s4, s5, s6] (.ref a :: st) h := e_go dX0_counts_146 rfl rfl
theorem wX0_counts_147 (ht : oT h a = 5) : E_ d mX0_counts 147 ls (.ref a :: st) h = E_ d mX0_counts 150 ls (va_rf (oR h a 2) :: st) h := e_getR0 dX0_counts_147 rfl rfl ht
theorem wX0_counts_150 : E_ d mX0_counts 150 [s0, s1, s2, s3, s4, s5, .val (.int x)] st h = E_ d mX0_counts 152 [s0, s1, s2, s3, s4, s5, .val (.int x)] (.int x :: st) h := e_go dX0_counts_150 rfl rfl
theorem wX0_counts_152 (ht : oT h a = 40) (hi : xix x (oN h a) = true) : E_ d mX0_counts 152 ls (.int x :: .ref a :: st) h = E_ d mX0_counts 153 ls (.int (oI h a x.toNatClampNeg) :: st) h := e_iald dX0_counts_152 rfl ht hi
theorem wX0_counts_153 : E_ d mX0_counts 153 ls st h = E_ d mX0_counts 154 ls (.int (nI 2) :: st) h := e_iconst dX0_counts_153 kiconst_2 rfl
theorem wX0_counts_154 : E_ d mX0_counts 154 ls (.int y :: .int x :: st) h = if x = y then E_ d mX0_counts 157 ls st h else E_ d mX0_counts 162 ls st h := e_ine dX0_counts_154 rfl rfl
theorem wX0_counts_157 : E_ d mX0_counts 157 [s0, s1, s2, s3, .val (.long u), s5, s6] st h = E_ d mX0_counts 159 [s0, s1, s2, s3, .val (.long u), s5, s6] (.long u :: st) h := e_go dX0_counts_157 rfl rfl
theorem wX0_counts_159 : E_ d mX0_counts 159 ls st h = E_ d mX0_counts 163 ls st h := e_gt dX0_counts_159 rfl
theorem wX0_counts_162 : E_ d mX0_counts 162 ls st h = E_ d mX0_counts 163 ls (.long 0 :: st) h := e_go dX0_counts_162 rfl rfl
theorem wX0_counts_163 : E_ d mX0_counts 163 ls (.long v :: .long u :: st) h = E_ d mX0_counts 164 ls (.long (u + v) :: st) h := e_go dX0_counts_163 rfl rfl
theorem wX0_counts_164 (ht : oT h a = 44) (hi : xix x (oN h a) = true) : E_ d mX0_counts 164 ls (.long u :: .int x :: .ref a :: st) h = E_ d mX0_counts 165 ls st (pL h a (va_up (oL h a) x.toNatClampNeg u)) := e_last dX0_counts_164 rfl ht hi
theorem wX0_counts_165 : E_ d mX0_counts 165 [s0, s1, s2, s3, s4, s5, .val (.int x)] st h = E_ d mX0_counts 168 [s0, s1, s2, s3, s4, xk s5, .val (.int (x + nI 1))] st h := by rw [← kiinc_1]; exact e_go dX0_counts_165 rfl rfl
theorem wX0_counts_168 : E_ d mX0_counts 168 ls st h = E_ d mX0_counts 129 ls st h := e_gt dX0_counts_168 rfl
theorem wX0_counts_171 : E_ d mX0_counts 171 ls [] h = some (none, h) := e_rt dX0_counts_171 rfl rfl
/-! FootOut.helps -/
theorem wX0_helps_0 : E_ d mX0_helps 0 [s0, .val (.int x)] st h = E_ d mX0_helps 1 [s0, .val (.int x)] (.int x :: st) h := e_go dX0_helps_0 rfl rfl
theorem wX0_helps_1 : E_ (d + 1) mX0_helps 1 ls [.int x1] h = (C_ d mX0_isTrait [.int x1] h).bind fun r => E_ (d + 1) mX0_helps 4 ls (xpu r.1 []) r.2 := e_call dX0_helps_1 rfl rfl
theorem wX0_helps_4 : E_ d mX0_helps 4 ls (.int x :: st) h = if x = 0 then E_ d mX0_helps 7 ls st h else E_ d mX0_helps 15 ls st h := e_zne dX0_helps_4 rfl rfl
theorem wX0_helps_7 : E_ d mX0_helps 7 [.val (.ref a), s1] st h = E_ d mX0_helps 8 [.val (.ref a), s1] (.ref a :: st) h := e_go dX0_helps_7 rfl rfl
theorem wX0_helps_8 : E_ d mX0_helps 8 ls st h = E_ d mX0_helps 10 ls (.int ((-2)) :: st) h := e_bipush dX0_helps_8 kbipush_m2 rfl
theorem wX0_helps_10 (ht : oT h a = 1) : E_ (d + 1) mX0_helps 10 ls [.int x1, .ref a] h = (C_ d mX0_no [.ref a, .int x1] h).bind fun r => E_ (d + 1) mX0_helps 13 ls (xpu r.1 []) r.2 := e_vir dX0_helps_10 rfl rfl rfl rfl rfl rfl (Nat.le_of_ble_eq_true rfl) (Nat.le_of_ble_eq_true rfl) ht
theorem wX0_helps_13 : E_ d mX0_helps 13 ls (.int x :: st) h = E_ d mX0_helps 14 ls (.long x.toInt64 :: st) h := e_go dX0_helps_13 rfl rfl
theorem wX0_helps_14 : E_ d mX0_helps 14 ls [.long u] h = some (some (.long u), h) := e_rt dX0_helps_14 rfl rfl
theorem wX0_helps_15 : E_ d mX0_helps 15 [.val (.ref a), s1] st h = E_ d mX0_helps 16 [.val (.ref a), s1] (.ref a :: st) h := e_go dX0_helps_15 rfl rfl
theorem wX0_helps_16 : E_ d mX0_helps 16 [.val (.ref a), s1] st h = E_ d mX0_helps 17 [.val (.ref a), s1] (.ref a :: st) h := e_go dX0_helps_16 rfl rfl
theorem wX0_helps_17 (ht : oT h a = 1) : E_ d mX0_helps 17 ls (.ref a :: st) h = E_ d mX0_helps 20 ls (va_rf (oR h a 0) :: st) h := e_getR dX0_helps_17 rfl rfl ht
theorem wX0_helps_20 (ht : oT h a = 2) : E_ d mX0_helps 20 ls (.ref a :: st) h = E_ d mX0_helps 23 ls (va_rf (oR h a 0) :: st) h := e_getR dX0_helps_20 rfl rfl ht
theorem wX0_helps_23 (ht : oT h a = 3) : E_ d mX0_helps 23 ls (.ref a :: st) h = E_ d mX0_helps 26 ls (.int (oI h a 2) :: st) h := e_getI dX0_helps_23 rfl rfl ht
theorem wX0_helps_26 : E_ d mX0_helps 26 ls st h = E_ d mX0_helps 27 ls (.int (nI 1) :: st) h := e_iconst dX0_helps_26 kiconst_1 rfl
theorem wX0_helps_27 : E_ d mX0_helps 27 [s0, .val (.int x)] st h = E_ d mX0_helps 28 [s0, .val (.int x)] (.int x :: st) h := e_go dX0_helps_27 rfl rfl
theorem wX0_helps_28 : E_ d mX0_helps 28 ls (.int y :: .int x :: st) h = E_ d mX0_helps 29 ls (.int (x <<< (y &&& 31)) :: st) h := e_go dX0_helps_28 rfl rfl
theorem wX0_helps_29 : E_ d mX0_helps 29 ls (.int y :: .int x :: st) h = E_ d mX0_helps 30 ls (.int (x ^^^ y) :: st) h := e_go dX0_helps_29 rfl rfl
theorem wX0_helps_30 (ht : oT h a = 1) : E_ (d + 1) mX0_helps 30 ls [.int x1, .ref a] h = (C_ d mX0_overBy [.ref a, .int x1] h).bind fun r => E_ (d + 1) mX0_helps 33 ls (xpu r.1 []) r.2 := e_vir dX0_helps_30 rfl rfl rfl rfl rfl rfl (Nat.le_of_ble_eq_true rfl) (Nat.le_of_ble_eq_true rfl) ht
theorem wX0_helps_33 : E_ d mX0_helps 33 [.val (.ref a), s1] st h = E_ d mX0_helps 34 [.val (.ref a), s1] (.ref a :: st) h := e_go dX0_helps_33 rfl rfl
theorem wX0_helps_34 : E_ d mX0_helps 34 [.val (.ref a), s1] st h = E_ d mX0_helps 35 [.val (.ref a), s1] (.ref a :: st) h := e_go dX0_helps_34 rfl rfl
theorem wX0_helps_35 (ht : oT h a = 1) : E_ d mX0_helps 35 ls (.ref a :: st) h = E_ d mX0_helps 38 ls (va_rf (oR h a 0) :: st) h := e_getR dX0_helps_35 rfl rfl ht
theorem wX0_helps_38 (ht : oT h a = 2) : E_ d mX0_helps 38 ls (.ref a :: st) h = E_ d mX0_helps 41 ls (va_rf (oR h a 0) :: st) h := e_getR dX0_helps_38 rfl rfl ht
theorem wX0_helps_41 (ht : oT h a = 3) : E_ d mX0_helps 41 ls (.ref a :: st) h = E_ d mX0_helps 44 ls (.int (oI h a 2) :: st) h := e_getI dX0_helps_41 rfl rfl ht
theorem wX0_helps_44 (ht : oT h a = 1) : E_ (d + 1) mX0_helps 44 ls [.int x1, .ref a, .long u1] h = (C_ d mX0_overBy [.ref a, .int x1] h).bind fun r => E_ (d + 1) mX0_helps 47 ls (xpu r.1 [.long u1]) r.2 := e_vir dX0_helps_44 rfl rfl rfl rfl rfl rfl (Nat.le_of_ble_eq_true rfl) (Nat.le_of_ble_eq_true rfl) ht
theorem wX0_helps_47 : E_ d mX0_helps 47 ls (.long v :: .long u :: st) h = E_ d mX0_helps 48 ls (.long (u - v) :: st) h := e_go dX0_helps_47 rfl rfl
theorem wX0_helps_48 : E_ d mX0_helps 48 ls [.long u] h = some (some (.long u), h) := e_rt dX0_helps_48 rfl rfl
/-! FootOut.overBy -/
theorem wX0_overBy_0 : E_ d mX0_overBy 0 [.val (.ref a), s1, s2] st h = E_ d mX0_overBy 1 [.val (.ref a), s1, s2] (.ref a :: st) h := e_go dX0_overBy_0 rfl rfl
theorem wX0_overBy_1 (ht : oT h a = 1) : E_ d mX0_overBy 1 ls (.ref a :: st) h = E_ d mX0_overBy 4 ls (va_rf (oR h a 0) :: st) h := e_getR dX0_overBy_1 rfl rfl ht
theorem wX0_overBy_4 (ht : oT h a = 2) : E_ d mX0_overBy 4 ls (.ref a :: st) h = E_ d mX0_overBy 7 ls (va_rf (oR h a 0) :: st) h := e_getR dX0_overBy_4 rfl rfl ht
theorem wX0_overBy_7 (ht : oT h a = 3) : E_ d mX0_overBy 7 ls (.ref a :: st) h = E_ d mX0_overBy 10 ls (.int (oI h a 2) :: st) h := e_getI dX0_overBy_7 rfl rfl ht
theorem wX0_overBy_10 : E_ d mX0_overBy 10 [s0, s1, s2] (.int x :: st) h = E_ d mX0_overBy 11 [s0, xk s1, .val (.int x)] st h := e_go dX0_overBy_10 rfl rfl
theorem wX0_overBy_11 : E_ d mX0_overBy 11 [.val (.ref a), s1, s2] st h = E_ d mX0_overBy 12 [.val (.ref a), s1, s2] (.ref a :: st) h := e_go dX0_overBy_11 rfl rfl
theorem wX0_overBy_12 (ht : oT h a = 1) : E_ d mX0_overBy 12 ls (.ref a :: st) h = E_ d mX0_overBy 15 ls (va_rf (oR h a 0) :: st) h := e_getR dX0_overBy_12 rfl rfl ht
theorem wX0_overBy_15 (ht : oT h a = 2) : E_ d mX0_overBy 15 ls (.ref a :: st) h = E_ d mX0_overBy 18 ls (va_rf (oR h a 0) :: st) h := e_getR dX0_overBy_15 rfl rfl ht
theorem wX0_overBy_18 : E_ d mX0_overBy 18 [s0, .val (.int x), s2] st h = E_ d mX0_overBy 19 [s0, .val (.int x), s2] (.int x :: st) h := e_go dX0_overBy_18 rfl rfl
theorem wX0_overBy_19 (ht : oT h a = 3) : E_ d mX0_overBy 19 ls (.int x :: .ref a :: st) h = E_ d mX0_overBy 22 ls st (pI h a (va_up (oI h a) 2 x)) := e_putI dX0_overBy_19 rfl rfl ht
theorem wX0_overBy_22 : E_ d mX0_overBy 22 [.val (.ref a), s1, s2] st h = E_ d mX0_overBy 23 [.val (.ref a), s1, s2] (.ref a :: st) h := e_go dX0_overBy_22 rfl rfl
theorem wX0_overBy_23 : E_ d mX0_overBy 23 [.val (.ref a), s1, s2] st h = E_ d mX0_overBy 24 [.val (.ref a), s1, s2] (.ref a :: st) h := e_go dX0_overBy_23 rfl rfl
theorem wX0_overBy_24 (ht : oT h a = 1) : E_ d mX0_overBy 24 ls (.ref a :: st) h = E_ d mX0_overBy 27 ls (va_rf (oR h a 0) :: st) h := e_getR dX0_overBy_24 rfl rfl ht
theorem wX0_overBy_27 (ht : oT h a = 2) : E_ d mX0_overBy 27 ls (.ref a :: st) h = E_ d mX0_overBy 30 ls (va_rf (oR h a 0) :: st) h := e_getR dX0_overBy_27 rfl rfl ht
theorem wX0_overBy_30 (ht : oT h a = 1) : E_ (d + 1) mX0_overBy 30 ls [.ref r1, .ref a] h = (C_ d mX0_gathers [.ref a, .ref r1] h).bind fun r => E_ (d + 1) mX0_overBy 33 ls (xpu r.1 []) r.2 := e_vir dX0_overBy_30 rfl rfl rfl rfl rfl rfl (Nat.le_of_ble_eq_true rfl) (Nat.le_of_ble_eq_true rfl) ht
theorem wX0_overBy_33 : E_ d mX0_overBy 33 [.val (.ref a), s1, s2] st h = E_ d mX0_overBy 34 [.val (.ref a), s1, s2] (.ref a :: st) h := e_go dX0_overBy_33 rfl rfl
theorem wX0_overBy_34 (ht : oT h a = 1) : E_ d mX0_overBy 34 ls (.ref a :: st) h = E_ d mX0_overBy 37 ls (va_rf (oR h a 0) :: st) h := e_getR dX0_overBy_34 rfl rfl ht
theorem wX0_overBy_37 (ht : oT h a = 2) : E_ d mX0_overBy 37 ls (.ref a :: st) h = E_ d mX0_overBy 40 ls (va_rf (oR h a 0) :: st) h := e_getR dX0_overBy_37 rfl rfl ht
theorem wX0_overBy_40 : E_ d mX0_overBy 40 [s0, s1, .val (.int x)] st h = E_ d mX0_overBy 41 [s0, s1, .val (.int x)] (.int x :: st) h := e_go dX0_overBy_40 rfl rfl
theorem wX0_overBy_41 (ht : oT h a = 3) : E_ d mX0_overBy 41 ls (.int x :: .ref a :: st) h = E_ d mX0_overBy 44 ls st (pI h a (va_up (oI h a) 2 x)) := e_putI dX0_overBy_41 rfl rfl ht
theorem wX0_overBy_44 : E_ d mX0_overBy 44 [.val (.ref a), s1, s2] st h = E_ d mX0_overBy 45 [.val (.ref a), s1, s2] (.ref a :: st) h := e_go dX0_overBy_44 rfl rfl
theorem wX0_overBy_45 (ht : oT h a = 1) : E_ d mX0_overBy 45 ls (.ref a :: st) h = E_ d mX0_overBy 48 ls (va_rf (oR h a 10) :: st) h := e_getR0 dX0_overBy_45 rfl rfl ht
theorem wX0_overBy_48 : E_ d mX0_overBy 48 ls st h = E_ d mX0_overBy 49 ls (.int (nI 0) :: st) h := e_iconst dX0_overBy_48 kiconst_0 rfl
theorem wX0_overBy_49 (ht : oT h a = 44) (hi : xix x (oN h a) = true) : E_ d mX0_overBy 49 ls (.int x :: .ref a :: st) h = E_ d mX0_overBy 50 ls (.long (oL h a x.toNatClampNeg) :: st) h := e_lald dX0_overBy_49 rfl ht hi
theorem wX0_overBy_50 : E_ d mX0_overBy 50 ls [.long u] h = some (some (.long u), h) := e_rt dX0_overBy_50 rfl rfl
/-! FootOut.best -/
theorem wX0_best_0 : E_ d mX0_best 0 [s0, .val (.int x), s2, s3, s4, s5, s6, s7] st h = E_ d mX0_best 1 [s0, .val (.int x), s2, s3, s4, s5, s6, s7] (.int x :: st) h := e_go dX0_best_0 rfl rfl
theorem wX0_best_1 : E_ d mX0_best 1 ls (.int x :: st) h = E_ d mX0_best 2 ls (.long x.toInt64 :: st) h := e_go dX0_best_1 rfl rfl
theorem wX0_best_2 : E_ d mX0_best 2 ls st h = E_ d mX0_best 3 ls (.long 0 :: st) h := e_go dX0_best_2 rfl rfl
theorem wX0_best_3 : E_ d mX0_best 3 ls st h = E_ d mX0_best 6 ls (.long (3) :: st) h := e_go dX0_best_3 rfl rfl
theorem wX0_best_6 : E_ (d + 1) mX0_best 6 ls [.long u3, .long u2, .long u1] h = (C_ d mX0_in [.long u1, .long u2, .long u3] h).bind fun r => E_ (d + 1) mX0_best 9 ls (xpu r.1 []) r.2 := e_call dX0_best_6 rfl rfl
theorem wX0_best_9 : E_ d mX0_best 9 ls (.int x :: st) h = if x = 0 then E_ d mX0_best 12 ls st h else E_ d mX0_best 19 ls st h := e_zne dX0_best_9 rfl rfl
theorem wX0_best_12 : E_ d mX0_best 12 [.val (.ref a), s1, s2, s3, s4, s5, s6, s7] st h = E_ d mX0_best 13 [.val (.ref a), s1, s2, s3, s4, s5, s6, s7] (.ref a :: st) h := e_go dX0_best_12 rfl rfl
theorem wX0_best_13 : E_ d mX0_best 13 ls st h = E_ d mX0_best 15 ls (.int ((-3)) :: st) h := e_bipush dX0_best_13 kbipush_m3 rfl
theorem wX0_best_15 (ht : oT h a = 1) : E_ (d + 1) mX0_best 15 ls [.int x1, .ref a] h = (C_ d mX0_no [.ref a, .int x1] h).bind fun r => E_ (d + 1) mX0_best 18 ls (xpu r.1 []) r.2 := e_vir dX0_best_15 rfl rfl rfl rfl rfl rfl (Nat.le_of_ble_eq_true rfl) (Nat.le_of_ble_eq_true rfl) ht
theorem wX0_best_18 : E_ d mX0_best 18 ls [.int x] h = some (some (.int x), h) := e_rt dX0_best_18 rfl rfl
theorem wX0_best_19 : E_ d mX0_best 19 ls st h = E_ d mX0_best 20 ls (.int ((-1)) :: st) h := e_iconst dX0_best_19 kiconst_m1 rfl
theorem wX0_best_20 : E_ d mX0_best 20 [s0, s1, s2, s3, s4, s5, s6, s7] (.int x :: st) h = E_ d mX0_best 21 [s0, xk s1, .val (.int x), s3, s4, s5, s6, s7] st h := e_go dX0_best_20 rfl rfl
theorem wX0_best_21 : E_ d mX0_best 21 ls st h = E_ d mX0_best 22 ls (.long 0 :: st) h := e_go dX0_best_21 rfl rfl
theorem wX0_best_22 : E_ d mX0_best 22 [s0, s1, s2, s3, s4, s5, s6, s7] (.long u :: st) h = E_ d mX0_best 23 [s0, s1, xk s2, .val (.long u), .unset, s5, s6, s7] st h := e_go dX0_best_22 rfl rfl
theorem wX0_best_23 : E_ d mX0_best 23 ls st h = E_ d mX0_best 24 ls (.int (nI 0) :: st) h := e_iconst dX0_best_23 kiconst_0 rfl
theorem wX0_best_24 : E_ d mX0_best 24 [s0, s1, s2, s3, s4, s5, s6, s7] (.int x :: st) h = E_ d mX0_best 26 [s0, s1, s2, s3, xk s4, .val (.int x), s6, s7] st h := e_go dX0_best_24 rfl rfl
theorem wX0_best_26 : E_ d mX0_best 26 [s0, s1, s2, s3, s4, .val (.int x), s6, s7] st h = E_ d mX0_best 28 [s0, s1, s2, s3, s4, .val (.int x), s6, s7] (.int x :: st) h := e_go dX0_best_26 rfl rfl
theorem wX0_best_28 : E_ d mX0_best 28 ls st h = E_ d mX0_best 31 ls (.int (nI 256) :: st) h := e_sipush dX0_best_28 ksipush_256 rfl
theorem wX0_best_31 : E_ d mX0_best 31 ls (.int y :: .int x :: st) h = if x < y then E_ d mX0_best 34 ls st h else E_ d mX0_best 92 ls st h := e_ige dX0_best_31 rfl rfl
theorem wX0_best_34 : E_ d mX0_best 34 [s0, s1, s2, s3, s4, .val (.int x), s6, s7] st h = E_ d mX0_best 36 [s0, s1, s2, s3, s4, .val (.int x), s6, s7] (.int x :: st) h := e_go dX0_best_34 rfl rfl
theorem wX0_best_36 : E_ (d + 1) mX0_best 36 ls [.int x1] h = (C_ d mJ11_bitCount [.int x1] h).bind fun r => E_ (d + 1) mX0_best 39 ls (xpu r.1 []) r.2 := e_call dX0_best_36 rfl rfl
theorem wX0_best_39 : E_ d mX0_best 39 [s0, .val (.int x), s2, s3, s4, s5, s6, s7] st h = E_ d mX0_best 40 [s0, .val (.int x), s2, s3, s4, s5, s6, s7] (.int x :: st) h := e_go dX0_best_39 rfl rfl
theorem wX0_best_40 : E_ d mX0_best 40 ls (.int y :: .int x :: st) h = if x = y then E_ d mX0_best 46 ls st h else E_ d mX0_best 43 ls st h := e_ieq dX0_best_40 rfl rfl
theorem wX0_best_43 : E_ d mX0_best 43 ls st h = E_ d mX0_best 86 ls st h := e_gt dX0_best_43 rfl
theorem wX0_best_46 : E_ d mX0_best 46 [.val (.ref a), s1, s2, s3, s4, s5, s6, s7] st h = E_ d mX0_best 47 [.val (.ref a), s1, s2, s3, s4, s5, s6, s7] (.ref a :: st) h := e_go dX0_best_46 rfl rfl
theorem wX0_best_47 : E_ d mX0_best 47 [.val (.ref a), s1, s2, s3, s4, s5, s6, s7] st h = E_ d mX0_best 48 [.val (.ref a), s1, s2, s3, s4, s5, s6, s7] (.ref a :: st) h := e_go dX0_best_47 rfl rfl
theorem wX0_best_48 (ht : oT h a = 1) : E_ d mX0_best 48 ls (.ref a :: st) h = E_ d mX0_best 51 ls (va_rf (oR h a 0) :: st) h := e_getR dX0_best_48 rfl rfl ht
theorem wX0_best_51 (ht : oT h a = 2) : E_ d mX0_best 51 ls (.ref a :: st) h = E_ d mX0_best 54 ls (va_rf (oR h a 0) :: st) h := e_getR dX0_best_51 rfl rfl ht
theorem wX0_best_54 (ht : oT h a = 3) : E_ d mX0_best 54 ls (.ref a :: st) h = E_ d mX0_best 57 ls (.int (oI h a 2) :: st) h := e_getI dX0_best_54 rfl rfl ht
theorem wX0_best_57 : E_ d mX0_best 57 [s0, s1, s2, s3, s4, .val (.int x), s6, s7] st h = E_ d mX0_best 59 [s0, s1, s2, s3, s4, .val (.int x), s6, s7] (.int x :: st) h := e_go dX0_best_57 rfl rfl
theorem wX0_best_59 : E_ d mX0_best 59 ls (.int y :: .int x :: st) h = E_ d mX0_best 60 ls (.int (x ^^^ y) :: st) h := e_go dX0_best_59 rfl rfl
theorem wX0_best_60 (ht : oT h a = 1) : E_ (d + 1) mX0_best 60 ls [.int x1, .ref a] h = (C_ d mX0_overBy [.ref a, .int x1] h).bind fun r => E_ (d + 1) mX0_best 63 ls (xpu r.1 []) r.2 := e_vir dX0_best_60 rfl rfl rfl rfl rfl rfl (Nat.le_of_ble_eq_true rfl) (Nat.le_of_ble_eq_true rfl) ht
theorem wX0_best_63 : E_ d mX0_best 63 [s0, s1, s2, s3, s4, s5, s6, s7] (.long u :: st) h = E_ d mX0_best 65 [s0, s1, s2, s3, s4, xk s5, .val (.long u), .unset] st h := e_go dX0_best_63 rfl rfl
theorem wX0_best_65 : E_ d mX0_best 65 [s0, s1, .val (.int x), s3, s4, s5, s6, s7] st h = E_ d mX0_best 66 [s0, s1, .val (.int x), s3, s4, s5, s6, s7] (.int x :: st) h := e_go dX0_best_65 rfl rfl
theorem wX0_best_66 : E_ d mX0_best 66 ls st h = E_ d mX0_best 67 ls (.int ((-1)) :: st) h := e_iconst dX0_best_66 kiconst_m1 rfl
theorem wX0_best_67 : E_ d mX0_best 67 ls (.int y :: .int x :: st) h = if x = y then E_ d mX0_best 80 ls st h else E_ d mX0_best 70 ls st h := e_ieq dX0_best_67 rfl rfl
theorem wX0_best_70 : E_ d mX0_best 70 [s0, s1, s2, s3, s4, s5, .val (.long u), s7] st h = E_ d mX0_best 72 [s0, s1, s2, s3, s4, s5, .val (.long u), s7] (.long u :: st) h := e_go dX0_best_70 rfl rfl
theorem wX0_best_72 : E_ d mX0_best 72 [s0, s1, s2, .val (.long u), s4, s5, s6, s7] st h = E_ d mX0_best 73 [s0, s1, s2, .val (.long u), s4, s5, s6, s7] (.long u :: st) h := e_go dX0_best_72 rfl rfl
theorem wX0_best_73 : E_ d mX0_best 73 ls (.long v :: .long u :: st) h = E_ d mX0_best 74 ls (.int (lg_cmp u v) :: st) h := e_go dX0_best_73 rfl rfl
theorem wX0_best_74 : E_ d mX0_best 74 ls (.int x :: st) h = if 0 < x then E_ d mX0_best 80 ls st h else E_ d mX0_best 77 ls st h := e_zgt dX0_best_74 rfl rfl
theorem wX0_best_77 : E_ d mX0_best 77 ls st h = E_ d mX0_best 86 ls st h := e_gt dX0_best_77 rfl
theorem wX0_best_80 : E_ d mX0_best 80 [s0, s1, s2, s3, s4, .val (.int x), s6, s7] st h = E_ d mX0_best 82 [s0, s1, s2, s3, s4, .val (.int x), s6, s7] (.int x :: st) h := e_go dX0_best_80 rfl rfl
theorem wX0_best_82 : E_ d mX0_best 82 [s0, s1, s2, s3, s4, s5, s6, s7] (.int x :: st) h = E_ d mX0_best 83 [s0, xk s1, .val (.int x), s3, s4, s5, s6, s7] st h := e_go dX0_best_82 rfl rfl
theorem wX0_best_83 : E_ d mX0_best 83 [s0, s1, s2, s3, s4, s5, .val (.long u), s7] st h = E_ d mX0_best 85 [s0, s1, s2, s3, s4, s5, .val (.long u), s7] (.long u :: st) h := e_go dX0_best_83 rfl rfl
theorem wX0_best_85 : E_ d mX0_best 85 [s0, s1, s2, s3, s4, s5, s6, s7] (.long u :: st) h = E_ d mX0_best 86 [s0, s1, xk s2, .val (.long u), .unset, s5, s6, s7] st h := e_go dX0_best_85 rfl rfl
theorem wX0_best_86 : E_ d mX0_best 86 [s0, s1, s2, s3, s4, .val (.int x), s6, s7] st h = E_ d mX0_best 89 [s0, s1, s2, s3, xk s4, .val (.int (x + nI 1)), s6, s7] st h := by rw [← kiinc_1]; exact e_go dX0_best_86 rfl rfl
theorem wX0_best_89 : E_ d mX0_best 89 ls st h = E_ d mX0_best 26 ls st h := e_gt dX0_best_89 rfl
theorem wX0_best_92 : E_ d mX0_best 92 [s0, s1, .val (.int x), s3, s4, s5, s6, s7] st h = E_ d mX0_best 93 [s0, s1, .val (.int x), s3, s4, s5, s6, s7] (.int x :: st) h := e_go dX0_best_92 rfl rfl
theorem wX0_best_93 : E_ d mX0_best 93 ls [.int x] h = some (some (.int x), h) := e_rt dX0_best_93 rfl rfl
/-! FootOut.back -/
theorem wX0_back_0 : E_ d mX0_back 0 [s0, .val (.int x), s2, s3, s4] st h = E_ d mX0_back 1 [s0, .val (.int x), s2, s3, s4] (.int x :: st) h := e_go dX0_back_0 rfl rfl
theorem wX0_back_1 : E_ d mX0_back 1 ls (.int x :: st) h = E_ d mX0_back 2 ls (.long x.toInt64 :: st) h := e_go dX0_back_1 rfl rfl
theorem wX0_back_2 : E_ d mX0_back 2 ls st h = E_ d mX0_back 3 ls (.long 0 :: st) h := e_go dX0_back_2 rfl rfl
theorem wX0_back_3 : E_ d mX0_back 3 ls st h = E_ d mX0_back 6 ls (.long (1000) :: st) h := e_go dX0_back_3 rfl rfl
theorem wX0_back_6 : E_ (d + 1) mX0_back 6 ls [.long u3, .long u2, .long u1] h = (C_ d mX0_in [.long u1, .long u2, .long u3] h).bind fun r => E_ (d + 1) mX0_back 9 ls (xpu r.1 []) r.2 := e_call dX0_back_6 rfl rfl
theorem wX0_back_9 : E_ d mX0_back 9 ls (.int x :: st) h = if x = 0 then E_ d mX0_back 12 ls st h else E_ d mX0_back 19 ls st h := e_zne dX0_back_9 rfl rfl
theorem wX0_back_12 : E_ d mX0_back 12 [.val (.ref a), s1, s2, s3, s4] st h = E_ d mX0_back 13 [.val (.ref a), s1, s2, s3, s4] (.ref a :: st) h := e_go dX0_back_12 rfl rfl
theorem wX0_back_13 : E_ d mX0_back 13 ls st h = E_ d mX0_back 15 ls (.int ((-3)) :: st) h := e_bipush dX0_back_13 kbipush_m3 rfl
theorem wX0_back_15 (ht : oT h a = 1) : E_ (d + 1) mX0_back 15 ls [.int x1, .ref a] h = (C_ d mX0_no [.ref a, .int x1] h).bind fun r => E_ (d + 1) mX0_back 18 ls (xpu r.1 []) r.2 := e_vir dX0_back_15 rfl rfl rfl rfl rfl rfl (Nat.le_of_ble_eq_true rfl) (Nat.le_of_ble_eq_true rfl) ht
theorem wX0_back_18 : E_ d mX0_back 18 ls [.int x] h = some (some (.int x), h) := e_rt dX0_back_18 rfl rfl
theorem wX0_back_19 : E_ d mX0_back 19 [.val (.ref a), s1, s2, s3, s4] st h = E_ d mX0_back 20 [.val (.ref a), s1, s2, s3, s4] (.ref a :: st) h := e_go dX0_back_19 rfl rfl
theorem wX0_back_20 (ht : oT h a = 1) : E_ d mX0_back 20 ls (.ref a :: st) h = E_ d mX0_back 23 ls (va_rf (oR h a 0) :: st) h := e_getR dX0_back_20 rfl rfl ht
theorem wX0_back_23 (ht : oT h a = 2) : E_ d mX0_back 23 ls (.ref a :: st) h = E_ d mX0_back 26 ls (va_rf (oR h a 0) :: st) h := e_getR dX0_back_23 rfl rfl ht
theorem wX0_back_26 (ht : oT h a = 3) : E_ d mX0_back 26 ls (.ref a :: st) h = E_ d mX0_back 29 ls (.int (oI h a 3) :: st) h := e_getI dX0_back_26 rfl rfl ht
theorem wX0_back_29 : E_ d mX0_back 29 [s0, s1, s2, s3, s4] (.int x :: st) h = E_ d mX0_back 30 [s0, xk s1, .val (.int x), s3, s4] st h := e_go dX0_back_29 rfl rfl
theorem wX0_back_30 : E_ d mX0_back 30 ls st h = E_ d mX0_back 31 ls (.int ((-1)) :: st) h := e_iconst dX0_back_30 kiconst_m1 rfl
theorem wX0_back_31 : E_ d mX0_back 31 [s0, s1, s2, s3, s4] (.int x :: st) h = E_ d mX0_back 32 [s0, s1, xk s2, .val (.int x), s4] st h := e_go dX0_back_31 rfl rfl
theorem wX0_back_32 : E_ d mX0_back 32 ls st h = E_ d mX0_back 33 ls (.int (nI 0) :: st) h := e_iconst dX0_back_32 kiconst_0 rfl
theorem wX0_back_33 : E_ d mX0_back 33 [s0, s1, s2, s3, s4] (.int x :: st) h = E_ d mX0_back 35 [s0, s1, s2, xk s3, .val (.int x)] st h := e_go dX0_back_33 rfl rfl
theorem wX0_back_35 : E_ d mX0_back 35 [s0, s1, s2, s3, .val (.int x)] st h = E_ d mX0_back 37 [s0, s1, s2, s3, .val (.int x)] (.int x :: st) h := e_go dX0_back_35 rfl rfl
theorem wX0_back_37 : E_ d mX0_back 37 ls st h = E_ d mX0_back 39 ls (.int (nI 30) :: st) h := e_bipush dX0_back_37 kbipush_30 rfl
theorem wX0_back_39 : E_ d mX0_back 39 ls (.int y :: .int x :: st) h = if y < x then E_ d mX0_back 98 ls st h else E_ d mX0_back 42 ls st h := e_igt dX0_back_39 rfl rfl
theorem wX0_back_42 : E_ d mX0_back 42 [s0, s1, s2, .val (.int x), s4] st h = E_ d mX0_back 43 [s0, s1, s2, .val (.int x), s4] (.int x :: st) h := e_go dX0_back_42 rfl rfl
theorem wX0_back_43 : E_ d mX0_back 43 ls st h = E_ d mX0_back 44 ls (.int ((-1)) :: st) h := e_iconst dX0_back_43 kiconst_m1 rfl
theorem wX0_back_44 : E_ d mX0_back 44 ls (.int y :: .int x :: st) h = if x = y then E_ d mX0_back 47 ls st h else E_ d mX0_back 98 ls st h := e_ine dX0_back_44 rfl rfl
theorem wX0_back_47 : E_ d mX0_back 47 [.val (.ref a), s1, s2, s3, s4] st h = E_ d mX0_back 48 [.val (.ref a), s1, s2, s3, s4] (.ref a :: st) h := e_go dX0_back_47 rfl rfl
theorem wX0_back_48 (ht : oT h a = 1) : E_ d mX0_back 48 ls (.ref a :: st) h = E_ d mX0_back 51 ls (va_rf (oR h a 0) :: st) h := e_getR dX0_back_48 rfl rfl ht
theorem wX0_back_51 (ht : oT h a = 2) : E_ d mX0_back 51 ls (.ref a :: st) h = E_ d mX0_back 54 ls (va_rf (oR h a 0) :: st) h := e_getR dX0_back_51 rfl rfl ht
theorem wX0_back_54 : E_ d mX0_back 54 [s0, s1, s2, s3, .val (.int x)] st h = E_ d mX0_back 56 [s0, s1, s2, s3, .val (.int x)] (.int x :: st) h := e_go dX0_back_54 rfl rfl
theorem wX0_back_56 (ht : oT h a = 3) : E_ d mX0_back 56 ls (.int x :: .ref a :: st) h = E_ d mX0_back 59 ls st (pI h a (va_up (oI h a) 3 x)) := e_putI dX0_back_56 rfl rfl ht
theorem wX0_back_59 : E_ d mX0_back 59 [.val (.ref a), s1, s2, s3, s4] st h = E_ d mX0_back 60 [.val (.ref a), s1, s2, s3, s4] (.ref a :: st) h := e_go dX0_back_59 rfl rfl
theorem wX0_back_60 : E_ d mX0_back 60 [.val (.ref a), s1, s2, s3, s4] st h = E_ d mX0_back 61 [.val (.ref a), s1, s2, s3, s4] (.ref a :: st) h := e_go dX0_back_60 rfl rfl
theorem wX0_back_61 (ht : oT h a = 1) : E_ d mX0_back 61 ls (.ref a :: st) h = E_ d mX0_back 64 ls (va_rf (oR h a 0) :: st) h := e_getR dX0_back_61 rfl rfl ht
theorem wX0_back_64 (ht : oT h a = 2) : E_ d mX0_back 64 ls (.ref a :: st) h = E_ d mX0_back 67 ls (va_rf (oR h a 0) :: st) h := e_getR dX0_back_64 rfl rfl ht
theorem wX0_back_67 (ht : oT h a = 1) : E_ (d + 1) mX0_back 67 ls [.ref r1, .ref a] h = (C_ d mX0_gathers [.ref a, .ref r1] h).bind fun r => E_ (d + 1) mX0_back 70 ls (xpu r.1 []) r.2 := e_vir dX0_back_67 rfl rfl rfl rfl rfl rfl (Nat.le_of_ble_eq_true rfl) (Nat.le_of_ble_eq_true rfl) ht
theorem wX0_back_70 : E_ d mX0_back 70 [.val (.ref a), s1, s2, s3, s4] st h = E_ d mX0_back 71 [.val (.ref a), s1, s2, s3, s4] (.ref a :: st) h := e_go dX0_back_70 rfl rfl
theorem wX0_back_71 (ht : oT h a = 1) : E_ d mX0_back 71 ls (.ref a :: st) h = E_ d mX0_back 74 ls (va_rf (oR h a 10) :: st) h := e_getR0 dX0_back_71 rfl rfl ht
theorem wX0_back_74 : E_ d mX0_back 74 ls st h = E_ d mX0_back 75 ls (.int (nI 1) :: st) h := e_iconst dX0_back_74 kiconst_1 rfl
theorem wX0_back_75 (ht : oT h a = 44) (hi : xix x (oN h a) = true) : E_ d mX0_back 75 ls (.int x :: .ref a :: st) h = E_ d mX0_back 76 ls (.long (oL h a x.toNatClampNeg) :: st) h := e_lald dX0_back_75 rfl ht hi
theorem wX0_back_76 : E_ d mX0_back 76 [s0, .val (.int x), s2, s3, s4] st h = E_ d mX0_back 77 [s0, .val (.int x), s2, s3, s4] (.int x :: st) h := e_go dX0_back_76 rfl rfl
theorem wX0_back_77 : E_ d mX0_back 77 [.val (.ref a), s1, s2, s3, s4] st h = E_ d mX0_back 78 [.val (.ref a), s1, s2, s3, s4] (.ref a :: st) h := e_go dX0_back_77 rfl rfl
theorem wX0_back_78 (ht : oT h a = 1) : E_ d mX0_back 78 ls (.ref a :: st) h = E_ d mX0_back 81 ls (va_rf (oR h a 10) :: st) h := e_getR0 dX0_back_78 rfl rfl ht
theorem wX0_back_81 : E_ d mX0_back 81 ls st h = E_ d mX0_back 82 ls (.int (nI 5) :: st) h := e_iconst dX0_back_81 kiconst_5 rfl
theorem wX0_back_82 (ht : oT h a = 44) (hi : xix x (oN h a) = true) : E_ d mX0_back 82 ls (.int x :: .ref a :: st) h = E_ d mX0_back 83 ls (.long (oL h a x.toNatClampNeg) :: st) h := e_lald dX0_back_82 rfl ht hi
theorem wX0_back_83 : E_ (d + 1) mX0_back 83 ls [.long u2, .int x1, .long u1] h = (C_ d mX0_isAtMost [.long u1, .int x1, .long u2] h).bind fun r => E_ (d + 1) mX0_back 86 ls (xpu r.1 []) r.2 := e_call dX0_back_83 rfl rfl
theorem wX0_back_86 : E_ d mX0_back 86 ls (.int x :: st) h = if x = 0 then E_ d mX0_back 92 ls st h else E_ d mX0_back 89 ls st h := e_zeq dX0_back_86 rfl rfl
theorem wX0_back_89 : E_ d mX0_back 89 [s0, s1, s2, s3, .val (.int x)] st h = E_ d mX0_back 91 [s0, s1, s2, s3, .val (.int x)] (.int x :: st) h := e_go dX0_back_89 rfl rfl
theorem wX0_back_91 : E_ d mX0_back 91 [s0, s1, s2, s3, s4] (.int x :: st) h = E_ d mX0_back 92 [s0, s1, xk s2, .val (.int x), s4] st h := e_go dX0_back_91 rfl rfl
theorem wX0_back_92 : E_ d mX0_back 92 [s0, s1, s2, s3, .val (.int x)] st h = E_ d mX0_back 95 [s0, s1, s2, xk s3, .val (.int (x + nI 1))] st h := by rw [← kiinc_1]; exact e_go dX0_back_92 rfl rfl
theorem wX0_back_95 : E_ d mX0_back 95 ls st h = E_ d mX0_back 35 ls st h := e_gt dX0_back_95 rfl
theorem wX0_back_98 : E_ d mX0_back 98 [.val (.ref a), s1, s2, s3, s4] st h = E_ d mX0_back 99 [.val (.ref a), s1, s2, s3, s4] (.ref a :: st) h := e_go dX0_back_98 rfl rfl
theorem wX0_back_99 (ht : oT h a = 1) : E_ d mX0_back 99 ls (.ref a :: st) h = E_ d mX0_back 102 ls (va_rf (oR h a 0) :: st) h := e_getR dX0_back_99 rfl rfl ht
theorem wX0_back_102 (ht : oT h a = 2) : E_ d mX0_back 102 ls (.ref a :: st) h = E_ d mX0_back 105 ls (va_rf (oR h a 0) :: st) h := e_getR dX0_back_102 rfl rfl ht
theorem wX0_back_105 : E_ d mX0_back 105 [s0, s1, .val (.int x), s3, s4] st h = E_ d mX0_back 106 [s0, s1, .val (.int x), s3, s4] (.int x :: st) h := e_go dX0_back_105 rfl rfl
theorem wX0_back_106 (ht : oT h a = 3) : E_ d mX0_back 106 ls (.int x :: .ref a :: st) h = E_ d mX0_back 109 ls st (pI h a (va_up (oI h a) 3 x)) := e_putI dX0_back_106 rfl rfl ht
theorem wX0_back_109 : E_ d mX0_back 109 [s0, s1, s2, .val (.int x), s4] st h = E_ d mX0_back 110 [s0, s1, s2, .val (.int x), s4] (.int x :: st) h := e_go dX0_back_109 rfl rfl
theorem wX0_back_110 : E_ d mX0_back 110 ls [.int x] h = some (some (.int x), h) := e_rt dX0_back_110 rfl rfl
/-! FootOut.isAtMost -/
theorem wX0_isAtMost_0 : E_ d mX0_isAtMost 0 [s0, s1, s2, .val (.long u), s4] st h = E_ d mX0_isAtMost 1 [s0, s1, s2, .val (.long u), s4] (.long u :: st) h := e_go dX0_isAtMost_0 rfl rfl
theorem wX0_isAtMost_1 : E_ d mX0_isAtMost 1 ls st h = E_ d mX0_isAtMost 4 ls (.long (1000) :: st) h := e_go dX0_isAtMost_1 rfl rfl
theorem wX0_isAtMost_4 : E_ d mX0_isAtMost 4 ls (.long v :: .long u :: st) h = E_ d mX0_isAtMost 5 ls (.int (lg_cmp u v) :: st) h := e_go dX0_isAtMost_4 rfl rfl
theorem wX0_isAtMost_5 : E_ d mX0_isAtMost 5 ls (.int x :: st) h = if x < 0 then E_ d mX0_isAtMost 8 ls st h else E_ d mX0_isAtMost 27 ls st h := e_zge dX0_isAtMost_5 rfl rfl
theorem wX0_isAtMost_8 : E_ d mX0_isAtMost 8 [.val (.long u), s1, s2, s3, s4] st h = E_ d mX0_isAtMost 9 [.val (.long u), s1, s2, s3, s4] (.long u :: st) h := e_go dX0_isAtMost_8 rfl rfl
theorem wX0_isAtMost_9 : E_ d mX0_isAtMost 9 ls st h = E_ d mX0_isAtMost 12 ls (.long (1000) :: st) h := e_go dX0_isAtMost_9 rfl rfl
theorem wX0_isAtMost_12 : E_ d mX0_isAtMost 12 ls (.long v :: .long u :: st) h = E_ d mX0_isAtMost 13 ls (.long (u * v) :: st) h := e_go dX0_isAtMost_12 rfl rfl
theorem wX0_isAtMost_13 : E_ d mX0_isAtMost 13 [s0, s1, .val (.int x), s3, s4] st h = E_ d mX0_isAtMost 14 [s0, s1, .val (.int x), s3, s4] (.int x :: st) h := e_go dX0_isAtMost_13 rfl rfl
theorem wX0_isAtMost_14 : E_ d mX0_isAtMost 14 ls (.int x :: st) h = E_ d mX0_isAtMost 15 ls (.long x.toInt64 :: st) h := e_go dX0_isAtMost_14 rfl rfl
theorem wX0_isAtMost_15 : E_ d mX0_isAtMost 15 [s0, s1, s2, .val (.long u), s4] st h = E_ d mX0_isAtMost 16 [s0, s1, s2, .val (.long u), s4] (.long u :: st) h := e_go dX0_isAtMost_15 rfl rfl
theorem wX0_isAtMost_16 : E_ d mX0_isAtMost 16 ls (.long v :: .long u :: st) h = E_ d mX0_isAtMost 17 ls (.long (u * v) :: st) h := e_go dX0_isAtMost_16 rfl rfl
theorem wX0_isAtMost_17 : E_ d mX0_isAtMost 17 ls (.long v :: .long u :: st) h = E_ d mX0_isAtMost 18 ls (.int (lg_cmp u v) :: st) h := e_go dX0_isAtMost_17 rfl rfl
theorem wX0_isAtMost_18 : E_ d mX0_isAtMost 18 ls (.int x :: st) h = if 0 < x then E_ d mX0_isAtMost 25 ls st h else E_ d mX0_isAtMost 21 ls st h := e_zgt dX0_isAtMost_18 rfl rfl
theorem wX0_isAtMost_21 : E_ d mX0_isAtMost 21 ls st h = E_ d mX0_isAtMost 22 ls (.int (nI 1) :: st) h := e_iconst dX0_isAtMost_21 kiconst_1 rfl
theorem wX0_isAtMost_22 : E_ d mX0_isAtMost 22 ls st h = E_ d mX0_isAtMost 26 ls st h := e_gt dX0_isAtMost_22 rfl
theorem wX0_isAtMost_25 : E_ d mX0_isAtMost 25 ls st h = E_ d mX0_isAtMost 26 ls (.int (nI 0) :: st) h := e_iconst dX0_isAtMost_25 kiconst_0 rfl
theorem wX0_isAtMost_26 (hx : x = 0 ∨ x = 1) : E_ d mX0_isAtMost 26 ls [.int x] h = some (some (.int x), h) := e_rtZ dX0_isAtMost_26 rfl hx
theorem wX0_isAtMost_27 : E_ d mX0_isAtMost 27 [.val (.long u), s1, s2, s3, s4] st h = E_ d mX0_isAtMost 28 [.val (.long u), s1, s2, s3, s4] (.long u :: st) h := e_go dX0_isAtMost_27 rfl rfl
theorem wX0_isAtMost_28 : E_ d mX0_isAtMost 28 [s0, s1, .val (.int x), s3, s4] st h = E_ d mX0_isAtMost 29 [s0, s1, .val (.int x), s3, s4] (.int x :: st) h := e_go dX0_isAtMost_28 rfl rfl
theorem wX0_isAtMost_29 : E_ d mX0_isAtMost 29 ls (.int x :: st) h = E_ d mX0_isAtMost 30 ls (.long x.toInt64 :: st) h := e_go dX0_isAtMost_29 rfl rfl
theorem wX0_isAtMost_30 : E_ d mX0_isAtMost 30 [s0, s1, s2, .val (.long u), s4] st h = E_ d mX0_isAtMost 31 [s0, s1, s2, .val (.long u), s4] (.long u :: st) h := e_go dX0_isAtMost_30 rfl rfl
theorem wX0_isAtMost_31 : E_ d mX0_isAtMost 31 ls st h = E_ d mX0_isAtMost 34 ls (.long (1000) :: st) h := e_go dX0_isAtMost_31 rfl rfl
theorem wX0_isAtMost_34 (hy : ¬ v = 0) : E_ d mX0_isAtMost 34 ls (.long v :: .long u :: st) h = E_ d mX0_isAtMost 35 ls (.long (u / v) :: st) h := e_ldiv dX0_isAtMost_34 rfl hy
theorem wX0_isAtMost_35 : E_ d mX0_isAtMost 35 ls (.long v :: .long u :: st) h = E_ d mX0_isAtMost 36 ls (.long (u * v) :: st) h := e_go dX0_isAtMost_35 rfl rfl
theorem wX0_isAtMost_36 : E_ d mX0_isAtMost 36 ls (.long v :: .long u :: st) h = E_ d mX0_isAtMost 37 ls (.int (lg_cmp u v) :: st) h := e_go dX0_isAtMost_36 rfl rfl
theorem wX0_isAtMost_37 : E_ d mX0_isAtMost 37 ls (.int x :: st) h = if 0 < x then E_ d mX0_isAtMost 44 ls st h else E_ d mX0_isAtMost 40 ls st h := e_zgt dX0_isAtMost_37 rfl rfl
theorem wX0_isAtMost_40 : E_ d mX0_isAtMost 40 ls st h = E_ d mX0_isAtMost 41 ls (.int (nI 1) :: st) h := e_iconst dX0_isAtMost_40 kiconst_1 rfl
theorem wX0_isAtMost_41 : E_ d mX0_isAtMost 41 ls st h = E_ d mX0_isAtMost 45 ls st h := e_gt dX0_isAtMost_41 rfl
theorem wX0_isAtMost_44 : E_ d mX0_isAtMost 44 ls st h = E_ d mX0_isAtMost 45 ls (.int (nI 0) :: st) h := e_iconst dX0_isAtMost_44 kiconst_0 rfl
theorem wX0_isAtMost_45 (hx : x = 0 ∨ x = 1) : E_ d mX0_isAtMost 45 ls [.int x] h = some (some (.int x), h) := e_rtZ dX0_isAtMost_45 rfl hx
/-! FootOut.wise -/
theorem wX0_wise_0 : E_ d mX0_wise 0 [s0, .val (.int x), s2, s3, s4, s5, s6, s7] st h = E_ d mX0_wise 1 [s0, .val (.int x), s2, s3, s4, s5, s6, s7] (.int x :: st) h := e_go dX0_wise_0 rfl rfl
theorem wX0_wise_1 : E_ d mX0_wise 1 ls (.int x :: st) h = E_ d mX0_wise 2 ls (.long x.toInt64 :: st) h := e_go dX0_wise_1 rfl rfl
theorem wX0_wise_2 : E_ d mX0_wise 2 ls st h = E_ d mX0_wise 3 ls (.long 0 :: st) h := e_go dX0_wise_2 rfl rfl
theorem wX0_wise_3 : E_ d mX0_wise 3 ls st h = E_ d mX0_wise 4 ls (.long 1 :: st) h := e_go dX0_wise_3 rfl rfl
theorem wX0_wise_4 : E_ (d + 1) mX0_wise 4 ls [.long u3, .long u2, .long u1] h = (C_ d mX0_in [.long u1, .long u2, .long u3] h).bind fun r => E_ (d + 1) mX0_wise 7 ls (xpu r.1 []) r.2 := e_call dX0_wise_4 rfl rfl
theorem wX0_wise_7 : E_ d mX0_wise 7 ls (.int x :: st) h = if x = 0 then E_ d mX0_wise 10 ls st h else E_ d mX0_wise 17 ls st h := e_zne dX0_wise_7 rfl rfl
theorem wX0_wise_10 : E_ d mX0_wise 10 [.val (.ref a), s1, s2, s3, s4, s5, s6, s7] st h = E_ d mX0_wise 11 [.val (.ref a), s1, s2, s3, s4, s5, s6, s7] (.ref a :: st) h := e_go dX0_wise_10 rfl rfl
theorem wX0_wise_11 : E_ d mX0_wise 11 ls st h = E_ d mX0_wise 13 ls (.int ((-2)) :: st) h := e_bipush dX0_wise_11 kbipush_m2 rfl
theorem wX0_wise_13 (ht : oT h a = 1) : E_ (d + 1) mX0_wise 13 ls [.int x1, .ref a] h = (C_ d mX0_no [.ref a, .int x1] h).bind fun r => E_ (d + 1) mX0_wise 16 ls (xpu r.1 []) r.2 := e_vir dX0_wise_13 rfl rfl rfl rfl rfl rfl (Nat.le_of_ble_eq_true rfl) (Nat.le_of_ble_eq_true rfl) ht
theorem wX0_wise_16 : E_ d mX0_wise 16 ls [.int x] h = some (some (.int x), h) := e_rt dX0_wise_16 rfl rfl
theorem wX0_wise_17 : E_ d mX0_wise 17 [s0, .val (.int x), s2, s3, s4, s5, s6, s7] st h = E_ d mX0_wise 18 [s0, .val (.int x), s2, s3, s4, s5, s6, s7] (.int x :: st) h := e_go dX0_wise_17 rfl rfl
theorem wX0_wise_18 : E_ d mX0_wise 18 ls (.int x :: st) h = if x = 0 then E_ d mX0_wise 21 ls st h else E_ d mX0_wise 25 ls st h := e_zne dX0_wise_18 rfl rfl
theorem wX0_wise_21 : E_ d mX0_wise 21 ls st h = E_ d mX0_wise 22 ls (.int (nI 2) :: st) h := e_iconst dX0_wise_21 kiconst_2 rfl
theorem wX0_wise_22 : E_ d mX0_wise 22 ls st h = E_ d mX0_wise 26 ls st h := e_gt dX0_wise_22 rfl
theorem wX0_wise_25 : E_ d mX0_wise 25 ls st h = E_ d mX0_wise 26 ls (.int (nI 1) :: st) h := e_iconst dX0_wise_25 kiconst_1 rfl
theorem wX0_wise_26 : E_ d mX0_wise 26 [s0, s1, s2, s3, s4, s5, s6, s7] (.int x :: st) h = E_ d mX0_wise 27 [s0, xk s1, .val (.int x), s3, s4, s5, s6, s7] st h := e_go dX0_wise_26 rfl rfl
theorem wX0_wise_27 : E_ d mX0_wise 27 [.val (.ref a), s1, s2, s3, s4, s5, s6, s7] st h = E_ d mX0_wise 28 [.val (.ref a), s1, s2, s3, s4, s5, s6, s7] (.ref a :: st) h := e_go dX0_wise_27 rfl rfl
theorem wX0_wise_28 (ht : oT h a = 1) : E_ d mX0_wise 28 ls (.ref a :: st) h = E_ d mX0_wise 31 ls (va_rf (oR h a 0) :: st) h := e_getR dX0_wise_28 rfl rfl ht
theorem wX0_wise_31 (ht : oT h a = 2) : E_ d mX0_wise 31 ls (.ref a :: st) h = E_ d mX0_wise 34 ls (va_rf (oR h a 0) :: st) h := e_getR dX0_wise_31 rfl rfl ht
theorem wX0_wise_34 : E_ d mX0_wise 34 [s0, s1, .val (.int x), s3, s4, s5, s6, s7] st h = E_ d mX0_wise 35 [s0, s1, .val (.int x), s3, s4, s5, s6, s7] (.int x :: st) h := e_go dX0_wise_34 rfl rfl
theorem wX0_wise_35 (ht : oT h a = 3) : E_ (d + 1) mX0_wise 35 ls [.int x1, .ref a] h = (C_ d mX2_get [.ref a, .int x1] h).bind fun r => E_ (d + 1) mX0_wise 38 ls (xpu r.1 []) r.2 := e_vir dX0_wise_35 rfl rfl rfl rfl rfl rfl (Nat.le_of_ble_eq_true rfl) (Nat.le_of_ble_eq_true rfl) ht
theorem wX0_wise_38 : E_ d mX0_wise 38 [s0, s1, s2, s3, s4, s5, s6, s7] (.int x :: st) h = E_ d mX0_wise 39 [s0, s1, xk s2, .val (.int x), s4, s5, s6, s7] st h := e_go dX0_wise_38 rfl rfl
theorem wX0_wise_39 : E_ d mX0_wise 39 ls st h = E_ d mX0_wise 40 ls (.int ((-1)) :: st) h := e_iconst dX0_wise_39 kiconst_m1 rfl
theorem wX0_wise_40 : E_ d mX0_wise 40 [s0, s1, s2, s3, s4, s5, s6, s7] (.int x :: st) h = E_ d mX0_wise 42 [s0, s1, s2, xk s3, .val (.int x), s5, s6, s7] st h := e_go dX0_wise_40 rfl rfl
theorem wX0_wise_42 : E_ d mX0_wise 42 ls st h = E_ d mX0_wise 43 ls (.long 0 :: st) h := e_go dX0_wise_42 rfl rfl
theorem wX0_wise_43 : E_ d mX0_wise 43 [s0, s1, s2, s3, s4, s5, s6, s7] (.long u :: st) h = E_ d mX0_wise 45 [s0, s1, s2, s3, xk s4, .val (.long u), .unset, s7] st h := e_go dX0_wise_43 rfl rfl
theorem wX0_wise_45 : E_ d mX0_wise 45 ls st h = E_ d mX0_wise 46 ls (.int (nI 0) :: st) h := e_iconst dX0_wise_45 kiconst_0 rfl
theorem wX0_wise_46 : E_ d mX0_wise 46 [s0, s1, s2, s3, s4, s5, s6, s7] (.int x :: st) h = E_ d mX0_wise 48 [s0, s1, s2, s3, s4, s5, xk s6, .val (.int x)] st h := e_go dX0_wise_46 rfl rfl
theorem wX0_wise_48 : E_ d mX0_wise 48 [s0, s1, s2, s3, s4, s5, s6, .val (.int x)] st h = E_ d mX0_wise 50 [s0, s1, s2, s3, s4, s5, s6, .val (.int x)] (.int x :: st) h := e_go dX0_wise_48 rfl rfl
theorem wX0_wise_50 : E_ d mX0_wise 50 [s0, .val (.int x), s2, s3, s4, s5, s6, s7] st h = E_ d mX0_wise 51 [s0, .val (.int x), s2, s3, s4, s5, s6, s7] (.int x :: st) h := e_go dX0_wise_50 rfl rfl
theorem wX0_wise_51 : E_ d mX0_wise 51 ls (.int x :: st) h = if x = 0 then E_ d mX0_wise 54 ls st h else E_ d mX0_wise 59 ls st h := e_zne dX0_wise_51 rfl rfl
theorem wX0_wise_54 : E_ d mX0_wise 54 ls st h = E_ d mX0_wise 56 ls (.int (nI 60) :: st) h := e_bipush dX0_wise_54 kbipush_60 rfl
theorem wX0_wise_56 : E_ d mX0_wise 56 ls st h = E_ d mX0_wise 61 ls st h := e_gt dX0_wise_56 rfl
theorem wX0_wise_59 : E_ d mX0_wise 59 ls st h = E_ d mX0_wise 61 ls (.int (nI 20) :: st) h := e_bipush dX0_wise_59 kbipush_20 rfl
theorem wX0_wise_61 : E_ d mX0_wise 61 ls (.int y :: .int x :: st) h = if y < x then E_ d mX0_wise 127 ls st h else E_ d mX0_wise 64 ls st h := e_igt dX0_wise_61 rfl rfl
theorem wX0_wise_64 : E_ d mX0_wise 64 [.val (.ref a), s1, s2, s3, s4, s5, s6, s7] st h = E_ d mX0_wise 65 [.val (.ref a), s1, s2, s3, s4, s5, s6, s7] (.ref a :: st) h := e_go dX0_wise_64 rfl rfl
theorem wX0_wise_65 (ht : oT h a = 1) : E_ d mX0_wise 65 ls (.ref a :: st) h = E_ d mX0_wise 68 ls (va_rf (oR h a 0) :: st) h := e_getR dX0_wise_65 rfl rfl ht
theorem wX0_wise_68 (ht : oT h a = 2) : E_ d mX0_wise 68 ls (.ref a :: st) h = E_ d mX0_wise 71 ls (va_rf (oR h a 0) :: st) h := e_getR dX0_wise_68 rfl rfl ht
theorem wX0_wise_71 : E_ d mX0_wise 71 [s0, s1, .val (.int x), s3, s4, s5, s6, s7] st h = E_ d mX0_wise 72 [s0, s1, .val (.int x), s3, s4, s5, s6, s7] (.int x :: st) h := e_go dX0_wise_71 rfl rfl
theorem wX0_wise_72 : E_ d mX0_wise 72 [s0, s1, s2, s3, s4, s5, s6, .val (.int x)] st h = E_ d mX0_wise 74 [s0, s1, s2, s3, s4, s5, s6, .val (.int x)] (.int x :: st) h := e_go dX0_wise_72 rfl rfl
theorem wX0_wise_74 (ht : oT h a = 3) : E_ (d + 1) mX0_wise 74 ls [.int x2, .int x1, .ref a] h = (C_ d mX2_put [.ref a, .int x1, .int x2] h).bind fun r => E_ (d + 1) mX0_wise 77 ls (xpu r.1 []) r.2 := e_vir dX0_wise_74 rfl rfl rfl rfl rfl rfl (Nat.le_of_ble_eq_true rfl) (Nat.le_of_ble_eq_true rfl) ht
theorem wX0_wise_77 : E_ d mX0_wise 77 [.val (.ref a), s1, s2, s3, s4, s5, s6, s7] st h = E_ d mX0_wise 78 [.val (.ref a), s1, s2, s3, s4, s5, s6, s7] (.ref a :: st) h := e_go dX0_wise_77 rfl rfl
theorem wX0_wise_78 : E_ d mX0_wise 78 [.val (.ref a), s1, s2, s3, s4, s5, s6, s7] st h = E_ d mX0_wise 79 [.val (.ref a), s1, s2, s3, s4, s5, s6, s7] (.ref a :: st) h := e_go dX0_wise_78 rfl rfl
theorem wX0_wise_79 (ht : oT h a = 1) : E_ d mX0_wise 79 ls (.ref a :: st) h = E_ d mX0_wise 82 ls (va_rf (oR h a 0) :: st) h := e_getR dX0_wise_79 rfl rfl ht
theorem wX0_wise_82 (ht : oT h a = 2) : E_ d mX0_wise 82 ls (.ref a :: st) h = E_ d mX0_wise 85 ls (va_rf (oR h a 0) :: st) h := e_getR dX0_wise_82 rfl rfl ht
theorem wX0_wise_85 (ht : oT h a = 1) : E_ (d + 1) mX0_wise 85 ls [.ref r1, .ref a] h = (C_ d mX0_gathers [.ref a, .ref r1] h).bind fun r => E_ (d + 1) mX0_wise 88 ls (xpu r.1 []) r.2 := e_vir dX0_wise_85 rfl rfl rfl rfl rfl rfl (Nat.le_of_ble_eq_true rfl) (Nat.le_of_ble_eq_true rfl) ht
theorem wX0_wise_88 : E_ d mX0_wise 88 [s0, s1, s2, s3, .val (.int x), s5, s6, s7] st h = E_ d mX0_wise 90 [s0, s1, s2, s3, .val (.int x), s5, s6, s7] (.int x :: st) h := e_go dX0_wise_88 rfl rfl
theorem wX0_wise_90 : E_ d mX0_wise 90 ls st h = E_ d mX0_wise 91 ls (.int ((-1)) :: st) h := e_iconst dX0_wise_90 kiconst_m1 rfl
theorem wX0_wise_91 : E_ d mX0_wise 91 ls (.int y :: .int x :: st) h = if x = y then E_ d mX0_wise 109 ls st h else E_ d mX0_wise 94 ls st h := e_ieq dX0_wise_91 rfl rfl
theorem wX0_wise_94 : E_ d mX0_wise 94 [.val (.ref a), s1, s2, s3, s4, s5, s6, s7] st h = E_ d mX0_wise 95 [.val (.ref a), s1, s2, s3, s4, s5, s6, s7] (.ref a :: st) h := e_go dX0_wise_94 rfl rfl
theorem wX0_wise_95 (ht : oT h a = 1) : E_ d mX0_wise 95 ls (.ref a :: st) h = E_ d mX0_wise 98 ls (va_rf (oR h a 10) :: st) h := e_getR0 dX0_wise_95 rfl rfl ht
theorem wX0_wise_98 : E_ d mX0_wise 98 ls st h = E_ d mX0_wise 99 ls (.int (nI 0) :: st) h := e_iconst dX0_wise_98 kiconst_0 rfl
theorem wX0_wise_99 (ht : oT h a = 44) (hi : xix x (oN h a) = true) : E_ d mX0_wise 99 ls (.int x :: .ref a :: st) h = E_ d mX0_wise 100 ls (.long (oL h a x.toNatClampNeg) :: st) h := e_lald dX0_wise_99 rfl ht hi
theorem wX0_wise_100 : E_ d mX0_wise 100 [s0, s1, s2, s3, s4, .val (.long u), s6, s7] st h = E_ d mX0_wise 102 [s0, s1, s2, s3, s4, .val (.long u), s6, s7] (.long u :: st) h := e_go dX0_wise_100 rfl rfl
theorem wX0_wise_102 : E_ d mX0_wise 102 ls (.long v :: .long u :: st) h = E_ d mX0_wise 103 ls (.int (lg_cmp u v) :: st) h := e_go dX0_wise_102 rfl rfl
theorem wX0_wise_103 : E_ d mX0_wise 103 ls (.int x :: st) h = if 0 < x then E_ d mX0_wise 109 ls st h else E_ d mX0_wise 106 ls st h := e_zgt dX0_wise_103 rfl rfl
theorem wX0_wise_106 : E_ d mX0_wise 106 ls st h = E_ d mX0_wise 121 ls st h := e_gt dX0_wise_106 rfl
theorem wX0_wise_109 : E_ d mX0_wise 109 [s0, s1, s2, s3, s4, s5, s6, .val (.int x)] st h = E_ d mX0_wise 111 [s0, s1, s2, s3, s4, s5, s6, .val (.int x)] (.int x :: st) h := e_go dX0_wise_109 rfl rfl
theorem wX0_wise_111 : E_ d mX0_wise 111 [s0, s1, s2, s3, s4, s5, s6, s7] (.int x :: st) h = E_ d mX0_wise 113 [s0, s1, s2, xk s3, .val (.int x), s5, s6, s7] st h := e_go dX0_wise_111 rfl rfl
theorem wX0_wise_113 : E_ d mX0_wise 113 [.val (.ref a), s1, s2, s3, s4, s5, s6, s7] st h = E_ d mX0_wise 114 [.val (.ref a), s1, s2, s3, s4, s5, s6, s7] (.ref a :: st) h := e_go dX0_wise_113 rfl rfl
theorem wX0_wise_114 (ht : oT h a = 1) : E_ d mX0_wise 114 ls (.ref a :: st) h = E_ d mX0_wise 117 ls (va_rf (oR h a 10) :: st) h := e_getR0 dX0_wise_114 rfl rfl ht
theorem wX0_wise_117 : E_ d mX0_wise 117 ls st h = E_ d mX0_wise 118 ls (.int (nI 0) :: st) h := e_iconst dX0_wise_117 kiconst_0 rfl
theorem wX0_wise_118 (ht : oT h a = 44) (hi : xix x (oN h a) = true) : E_ d mX0_wise 118 ls (.int x :: .ref a :: st) h = E_ d mX0_wise 119 ls (.long (oL h a x.toNatClampNeg) :: st) h := e_lald dX0_wise_118 rfl ht hi
theorem wX0_wise_119 : E_ d mX0_wise 119 [s0, s1, s2, s3, s4, s5, s6, s7] (.long u :: st) h = E_ d mX0_wise 121 [s0, s1, s2, s3, xk s4, .val (.long u), .unset, s7] st h := e_go dX0_wise_119 rfl rfl
theorem wX0_wise_121 : E_ d mX0_wise 121 [s0, s1, s2, s3, s4, s5, s6, .val (.int x)] st h = E_ d mX0_wise 124 [s0, s1, s2, s3, s4, s5, xk s6, .val (.int (x + nI 1))] st h := by rw [← kiinc_1]; exact e_go dX0_wise_121 rfl rfl
theorem wX0_wise_124 : E_ d mX0_wise 124 ls st h = E_ d mX0_wise 48 ls st h := e_gt dX0_wise_124 rfl
theorem wX0_wise_127 : E_ d mX0_wise 127 [.val (.ref a), s1, s2, s3, s4, s5, s6, s7] st h = E_ d mX0_wise 128 [.val (.ref a), s1, s2, s3, s4, s5, s6, s7] (.ref a :: st) h := e_go dX0_wise_127 rfl rfl
theorem wX0_wise_128 (ht : oT h a = 1) : E_ d mX0_wise 128 ls (.ref a :: st) h = E_ d mX0_wise 131 ls (va_rf (oR h a 0) :: st) h := e_getR dX0_wise_128 rfl rfl ht
theorem wX0_wise_131 (ht : oT h a = 2) : E_ d mX0_wise 131 ls (.ref a :: st) h = E_ d mX0_wise 134 ls (va_rf (oR h a 0) :: st) h := e_getR dX0_wise_131 rfl rfl ht
theorem wX0_wise_134 : E_ d mX0_wise 134 [s0, s1, .val (.int x), s3, s4, s5, s6, s7] st h = E_ d mX0_wise 135 [s0, s1, .val (.int x), s3, s4, s5, s6, s7] (.int x :: st) h := e_go dX0_wise_134 rfl rfl
theorem wX0_wise_135 : E_ d mX0_wise 135 [s0, s1, s2, .val (.int x), s4, s5, s6, s7] st h = E_ d mX0_wise 136 [s0, s1, s2, .val (.int x), s4, s5, s6, s7] (.int x :: st) h := e_go dX0_wise_135 rfl rfl
theorem wX0_wise_136 (ht : oT h a = 3) : E_ (d + 1) mX0_wise 136 ls [.int x2, .int x1, .ref a] h = (C_ d mX2_put [.ref a, .int x1, .int x2] h).bind fun r => E_ (d + 1) mX0_wise 139 ls (xpu r.1 []) r.2 := e_vir dX0_wise_136 rfl rfl rfl rfl rfl rfl (Nat.le_of_ble_eq_true rfl) (Nat.le_of_ble_eq_true rfl) ht
theorem wX0_wise_139 : E_ d mX0_wise 139 [s0, s1, s2, s3, .val (.int x), s5, s6, s7] st h = E_ d mX0_wise 141 [s0, s1, s2, s3, .val (.int x), s5, s6, s7] (.int x :: st) h := e_go dX0_wise_139 rfl rfl
theorem wX0_wise_141 : E_ d mX0_wise 141 ls [.int x] h = some (some (.int x), h) := e_rt dX0_wise_141 rfl rfl
/-! FootOut.blame -/
theorem wX0_blame_0 : E_ d mX0_blame 0 [.val (.ref a), s1, s2] st h = E_ d mX0_blame 1 [.val (.ref a), s1, s2] (.ref a :: st) h := e_go dX0_blame_0 rfl rfl
theorem wX0_blame_1 : E_ d mX0_blame 1 [s0, .val (.int x), s2] st h = E_ d mX0_blame 2 [s0, .val (.int x), s2] (.int x :: st) h := e_go dX0_blame_1 rfl rfl
theorem wX0_blame_2 (ht : oT h a = 1) : E_ (d + 1) mX0_blame 2 ls [.int x1, .ref a] h = (C_ d mX0_isCar [.ref a, .int x1] h).bind fun r => E_ (d + 1) mX0_blame 5 ls (xpu r.1 []) r.2 := e_vir dX0_blame_2 rfl rfl rfl rfl rfl rfl (Nat.le_of_ble_eq_true rfl) (Nat.le_of_ble_eq_true rfl) ht
theorem wX0_blame_5 : E_ d mX0_blame 5 ls (.int x :: st) h = if x = 0 then E_ d mX0_blame 18 ls st h else E_ d mX0_blame 8 ls st h := e_zeq dX0_blame_5 rfl rfl
theorem wX0_blame_8 : E_ d mX0_blame 8 [s0, s1, .val (.int x)] st h = E_ d mX0_blame 9 [s0, s1, .val (.int x)] (.int x :: st) h := e_go dX0_blame_8 rfl rfl
theorem wX0_blame_9 : E_ d mX0_blame 9 ls (.int x :: st) h = E_ d mX0_blame 10 ls (.long x.toInt64 :: st) h := e_go dX0_blame_9 rfl rfl
theorem wX0_blame_10 : E_ d mX0_blame 10 ls st h = E_ d mX0_blame 11 ls (.long 0 :: st) h := e_go dX0_blame_10 rfl rfl
theorem wX0_blame_11 : E_ d mX0_blame 11 ls st h = E_ d mX0_blame 12 ls (.long 1 :: st) h := e_go dX0_blame_11 rfl rfl
theorem wX0_blame_12 : E_ (d + 1) mX0_blame 12 ls [.long u3, .long u2, .long u1] h = (C_ d mX0_in [.long u1, .long u2, .long u3] h).bind fun r => E_ (d + 1) mX0_blame 15 ls (xpu r.1 []) r.2 := e_call dX0_blame_12 rfl rfl
theorem wX0_blame_15 : E_ d mX0_blame 15 ls (.int x :: st) h = if x = 0 then E_ d mX0_blame 18 ls st h else E_ d mX0_blame 26 ls st h := e_zne dX0_blame_15 rfl rfl
theorem wX0_blame_18 : E_ d mX0_blame 18 [.val (.ref a), s1, s2] st h = E_ d mX0_blame 19 [.val (.ref a), s1, s2] (.ref a :: st) h := e_go dX0_blame_18 rfl rfl
theorem wX0_blame_19 : E_ d mX0_blame 19 ls st h = E_ d mX0_blame 21 ls (.int ((-2)) :: st) h := e_bipush dX0_blame_19 kbipush_m2 rfl
theorem wX0_blame_21 (ht : oT h a = 1) : E_ (d + 1) mX0_blame 21 ls [.int x1, .ref a] h = (C_ d mX0_no [.ref a, .int x1] h).bind fun r => E_ (d + 1) mX0_blame 24 ls (xpu r.1 []) r.2 := e_vir dX0_blame_21 rfl rfl rfl rfl rfl rfl (Nat.le_of_ble_eq_true rfl) (Nat.le_of_ble_eq_true rfl) ht
theorem wX0_blame_24 : E_ d mX0_blame 24 ls (.int x :: st) h = E_ d mX0_blame 25 ls (.long x.toInt64 :: st) h := e_go dX0_blame_24 rfl rfl
theorem wX0_blame_25 : E_ d mX0_blame 25 ls [.long u] h = some (some (.long u), h) := e_rt dX0_blame_25 rfl rfl
theorem wX0_blame_26 : E_ d mX0_blame 26 [.val (.ref a), s1, s2] st h = E_ d mX0_blame 27 [.val (.ref a), s1, s2] (.ref a :: st) h := e_go dX0_blame_26 rfl rfl
theorem wX0_blame_27 : E_ d mX0_blame 27 [.val (.ref a), s1, s2] st h = E_ d mX0_blame 28 [.val (.ref a), s1, s2] (.ref a :: st) h := e_go dX0_blame_27 rfl rfl
theorem wX0_blame_28 (ht : oT h a = 1) : E_ d mX0_blame 28 ls (.ref a :: st) h = E_ d mX0_blame 31 ls (va_rf (oR h a 0) :: st) h := e_getR dX0_blame_28 rfl rfl ht
theorem wX0_blame_31 (ht : oT h a = 2) : E_ d mX0_blame 31 ls (.ref a :: st) h = E_ d mX0_blame 34 ls (va_rf (oR h a 0) :: st) h := e_getR dX0_blame_31 rfl rfl ht
theorem wX0_blame_34 (ht : oT h a = 1) : E_ (d + 1) mX0_blame 34 ls [.ref r1, .ref a] h = (C_ d mX0_gathers [.ref a, .ref r1] h).bind fun r => E_ (d + 1) mX0_blame 37 ls (xpu r.1 []) r.2 := e_vir dX0_blame_34 rfl rfl rfl rfl rfl rfl (Nat.le_of_ble_eq_true rfl) (Nat.le_of_ble_eq_true rfl) ht
theorem wX0_blame_37 : E_ d mX0_blame 37 [s0, s1, .val (.int x)] st h = E_ d mX0_blame 38 [s0, s1, .val (.int x)] (.int x :: st) h := e_go dX0_blame_37 rfl rfl
theorem wX0_blame_38 : E_ d mX0_blame 38 ls (.int x :: st) h = if x = 0 then E_ d mX0_blame 41 ls st h else E_ d mX0_blame 50 ls st h := e_zne dX0_blame_38 rfl rfl
theorem wX0_blame_41 : E_ d mX0_blame 41 [.val (.ref a), s1, s2] st h = E_ d mX0_blame 42 [.val (.ref a), s1, s2] (.ref a :: st) h := e_go dX0_blame_41 rfl rfl
theorem wX0_blame_42 (ht : oT h a = 1) : E_ d mX0_blame 42 ls (.ref a :: st) h = E_ d mX0_blame 45 ls (va_rf (oR h a 11) :: st) h := e_getR0 dX0_blame_42 rfl rfl ht
theorem wX0_blame_45 : E_ d mX0_blame 45 [s0, .val (.int x), s2] st h = E_ d mX0_blame 46 [s0, .val (.int x), s2] (.int x :: st) h := e_go dX0_blame_45 rfl rfl
theorem wX0_blame_46 (ht : oT h a = 44) (hi : xix x (oN h a) = true) : E_ d mX0_blame 46 ls (.int x :: .ref a :: st) h = E_ d mX0_blame 47 ls (.long (oL h a x.toNatClampNeg) :: st) h := e_lald dX0_blame_46 rfl ht hi
theorem wX0_blame_47 : E_ d mX0_blame 47 ls st h = E_ d mX0_blame 56 ls st h := e_gt dX0_blame_47 rfl
theorem wX0_blame_50 : E_ d mX0_blame 50 [.val (.ref a), s1, s2] st h = E_ d mX0_blame 51 [.val (.ref a), s1, s2] (.ref a :: st) h := e_go dX0_blame_50 rfl rfl
theorem wX0_blame_51 (ht : oT h a = 1) : E_ d mX0_blame 51 ls (.ref a :: st) h = E_ d mX0_blame 54 ls (va_rf (oR h a 12) :: st) h := e_getR0 dX0_blame_51 rfl rfl ht
theorem wX0_blame_54 : E_ d mX0_blame 54 [s0, .val (.int x), s2] st h = E_ d mX0_blame 55 [s0, .val (.int x), s2] (.int x :: st) h := e_go dX0_blame_54 rfl rfl
theorem wX0_blame_55 (ht : oT h a = 44) (hi : xix x (oN h a) = true) : E_ d mX0_blame 55 ls (.int x :: .ref a :: st) h = E_ d mX0_blame 56 ls (.long (oL h a x.toNatClampNeg) :: st) h := e_lald dX0_blame_55 rfl ht hi
theorem wX0_blame_56 : E_ d mX0_blame 56 ls [.long u] h = some (some (.long u), h) := e_rt dX0_blame_56 rfl rfl
/-! FootOut.mean -/
theorem wX0_mean_0 : E_ d mX0_mean 0 [s0, .val (.int x)] st h = E_ d mX0_mean 1 [s0, .val (.int x)] (.int x :: st) h := e_go dX0_mean_0 rfl rfl
theorem wX0_mean_1 : E_ d mX0_mean 1 ls (.int x :: st) h = E_ d mX0_mean 2 ls (.long x.toInt64 :: st) h := e_go dX0_mean_1 rfl rfl
theorem wX0_mean_2 : E_ d mX0_mean 2 ls st h = E_ d mX0_mean 3 ls (.long 0 :: st) h := e_go dX0_mean_2 rfl rfl
theorem wX0_mean_3 : E_ d mX0_mean 3 ls st h = E_ d mX0_mean 4 ls (.long 1 :: st) h := e_go dX0_mean_3 rfl rfl
theorem wX0_mean_4 : E_ (d + 1) mX0_mean 4 ls [.long u3, .long u2, .long u1] h = (C_ d mX0_in [.long u1, .long u2, .long u3] h).bind fun r => E_ (d + 1) mX0_mean 7 ls (xpu r.1 []) r.2 := e_call dX0_mean_4 rfl rfl
theorem wX0_mean_7 : E_ d mX0_mean 7 ls (.int x :: st) h = if x = 0 then E_ d mX0_mean 10 ls st h else E_ d mX0_mean 18 ls st h := e_zne dX0_mean_7 rfl rfl
theorem wX0_mean_10 : E_ d mX0_mean 10 [.val (.ref a), s1] st h = E_ d mX0_mean 11 [.val (.ref a), s1] (.ref a :: st) h := e_go dX0_mean_10 rfl rfl
theorem wX0_mean_11 : E_ d mX0_mean 11 ls st h = E_ d mX0_mean 13 ls (.int ((-2)) :: st) h := e_bipush dX0_mean_11 kbipush_m2 rfl
theorem wX0_mean_13 (ht : oT h a = 1) : E_ (d + 1) mX0_mean 13 ls [.int x1, .ref a] h = (C_ d mX0_no [.ref a, .int x1] h).bind fun r => E_ (d + 1) mX0_mean 16 ls (xpu r.1 []) r.2 := e_vir dX0_mean_13 rfl rfl rfl rfl rfl rfl (Nat.le_of_ble_eq_true rfl) (Nat.le_of_ble_eq_true rfl) ht
theorem wX0_mean_16 : E_ d mX0_mean 16 ls (.int x :: st) h = E_ d mX0_mean 17 ls (.long x.toInt64 :: st) h := e_go dX0_mean_16 rfl rfl
theorem wX0_mean_17 : E_ d mX0_mean 17 ls [.long u] h = some (some (.long u), h) := e_rt dX0_mean_17 rfl rfl
theorem wX0_mean_18 : E_ d mX0_mean 18 [.val (.ref a), s1] st h = E_ d mX0_mean 19 [.val (.ref a), s1] (.ref a :: st) h := e_go dX0_mean_18 rfl rfl
theorem wX0_mean_19 : E_ d mX0_mean 19 [.val (.ref a), s1] st h = E_ d mX0_mean 20 [.val (.ref a), s1] (.ref a :: st) h := e_go dX0_mean_19 rfl rfl
theorem wX0_mean_20 (ht : oT h a = 1) : E_ d mX0_mean 20 ls (.ref a :: st) h = E_ d mX0_mean 23 ls (va_rf (oR h a 0) :: st) h := e_getR dX0_mean_20 rfl rfl ht
theorem wX0_mean_23 (ht : oT h a = 2) : E_ d mX0_mean 23 ls (.ref a :: st) h = E_ d mX0_mean 26 ls (va_rf (oR h a 0) :: st) h := e_getR dX0_mean_23 rfl rfl ht
theorem wX0_mean_26 (ht : oT h a = 1) : E_ (d + 1) mX0_mean 26 ls [.ref r1, .ref a] h = (C_ d mX0_gathers [.ref a, .ref r1] h).bind fun r => E_ (d + 1) mX0_mean 29 ls (xpu r.1 []) r.2 := e_vir dX0_mean_26 rfl rfl rfl rfl rfl rfl (Nat.le_of_ble_eq_true rfl) (Nat.le_of_ble_eq_true rfl) ht
theorem wX0_mean_29 : E_ d mX0_mean 29 [s0, .val (.int x)] st h = E_ d mX0_mean 30 [s0, .val (.int x)] (.int x :: st) h := e_go dX0_mean_29 rfl rfl
theorem wX0_mean_30 : E_ d mX0_mean 30 ls (.int x :: st) h = if x = 0 then E_ d mX0_mean 33 ls st h else E_ d mX0_mean 42 ls st h := e_zne dX0_mean_30 rfl rfl
theorem wX0_mean_33 : E_ d mX0_mean 33 [.val (.ref a), s1] st h = E_ d mX0_mean 34 [.val (.ref a), s1] (.ref a :: st) h := e_go dX0_mean_33 rfl rfl
theorem wX0_mean_34 (ht : oT h a = 1) : E_ d mX0_mean 34 ls (.ref a :: st) h = E_ d mX0_mean 37 ls (va_rf (oR h a 10) :: st) h := e_getR0 dX0_mean_34 rfl rfl ht
theorem wX0_mean_37 : E_ d mX0_mean 37 ls st h = E_ d mX0_mean 38 ls (.int (nI 3) :: st) h := e_iconst dX0_mean_37 kiconst_3 rfl
theorem wX0_mean_38 (ht : oT h a = 44) (hi : xix x (oN h a) = true) : E_ d mX0_mean 38 ls (.int x :: .ref a :: st) h = E_ d mX0_mean 39 ls (.long (oL h a x.toNatClampNeg) :: st) h := e_lald dX0_mean_38 rfl ht hi
theorem wX0_mean_39 : E_ d mX0_mean 39 ls st h = E_ d mX0_mean 48 ls st h := e_gt dX0_mean_39 rfl
theorem wX0_mean_42 : E_ d mX0_mean 42 [.val (.ref a), s1] st h = E_ d mX0_mean 43 [.val (.ref a), s1] (.ref a :: st) h := e_go dX0_mean_42 rfl rfl
theorem wX0_mean_43 (ht : oT h a = 1) : E_ d mX0_mean 43 ls (.ref a :: st) h = E_ d mX0_mean 46 ls (va_rf (oR h a 10) :: st) h := e_getR0 dX0_mean_43 rfl rfl ht
theorem wX0_mean_46 : E_ d mX0_mean 46 ls st h = E_ d mX0_mean 47 ls (.int (nI 5) :: st) h := e_iconst dX0_mean_46 kiconst_5 rfl
theorem wX0_mean_47 (ht : oT h a = 44) (hi : xix x (oN h a) = true) : E_ d mX0_mean 47 ls (.int x :: .ref a :: st) h = E_ d mX0_mean 48 ls (.long (oL h a x.toNatClampNeg) :: st) h := e_lald dX0_mean_47 rfl ht hi
theorem wX0_mean_48 : E_ d mX0_mean 48 [.val (.ref a), s1] st h = E_ d mX0_mean 49 [.val (.ref a), s1] (.ref a :: st) h := e_go dX0_mean_48 rfl rfl
theorem wX0_mean_49 (ht : oT h a = 1) : E_ d mX0_mean 49 ls (.ref a :: st) h = E_ d mX0_mean 52 ls (va_rf (oR h a 10) :: st) h := e_getR0 dX0_mean_49 rfl rfl ht
theorem wX0_mean_52 : E_ d mX0_mean 52 ls st h = E_ d mX0_mean 53 ls (.int (nI 3) :: st) h := e_iconst dX0_mean_52 kiconst_3 rfl
theorem wX0_mean_53 (ht : oT h a = 44) (hi : xix x (oN h a) = true) : E_ d mX0_mean 53 ls (.int x :: .ref a :: st) h = E_ d mX0_mean 54 ls (.long (oL h a x.toNatClampNeg) :: st) h := e_lald dX0_mean_53 rfl ht hi
theorem wX0_mean_54 : E_ d mX0_mean 54 [.val (.ref a), s1] st h = E_ d mX0_mean 55 [.val (.ref a), s1] (.ref a :: st) h := e_go dX0_mean_54 rfl rfl
theorem wX0_mean_55 (ht : oT h a = 1) : E_ d mX0_mean 55 ls (.ref a :: st) h = E_ d mX0_mean 58 ls (va_rf (oR h a 10) :: st) h := e_getR0 dX0_mean_55 rfl rfl ht
theorem wX0_mean_58 : E_ d mX0_mean 58 ls st h = E_ d mX0_mean 59 ls (.int (nI 5) :: st) h := e_iconst dX0_mean_58 kiconst_5 rfl
theorem wX0_mean_59 (ht : oT h a = 44) (hi : xix x (oN h a) = true) : E_ d mX0_mean 59 ls (.int x :: .ref a :: st) h = E_ d mX0_mean 60 ls (.long (oL h a x.toNatClampNeg) :: st) h := e_lald dX0_mean_59 rfl ht hi
theorem wX0_mean_60 : E_ (d + 1) mX0_mean 60 ls [.long u2, .long u1, .long u3] h = (C_ d mX0_commonOf [.long u1, .long u2] h).bind fun r => E_ (d + 1) mX0_mean 63 ls (xpu r.1 [.long u3]) r.2 := e_call dX0_mean_60 rfl rfl
theorem wX0_mean_63 (hy : ¬ v = 0) : E_ d mX0_mean 63 ls (.long v :: .long u :: st) h = E_ d mX0_mean 64 ls (.long (u / v) :: st) h := e_ldiv dX0_mean_63 rfl hy
theorem wX0_mean_64 : E_ d mX0_mean 64 ls [.long u] h = some (some (.long u), h) := e_rt dX0_mean_64 rfl rfl
/-! FootOut.commonOf -/
theorem wX0_commonOf_0 : E_ d mX0_commonOf 0 [s0, s1, .val (.long u), s3] st h = E_ d mX0_commonOf 1 [s0, s1, .val (.long u), s3] (.long u :: st) h := e_go dX0_commonOf_0 rfl rfl
theorem wX0_commonOf_1 : E_ d mX0_commonOf 1 ls st h = E_ d mX0_commonOf 2 ls (.long 0 :: st) h := e_go dX0_commonOf_1 rfl rfl
theorem wX0_commonOf_2 : E_ d mX0_commonOf 2 ls (.long v :: .long u :: st) h = E_ d mX0_commonOf 3 ls (.int (lg_cmp u v) :: st) h := e_go dX0_commonOf_2 rfl rfl
theorem wX0_commonOf_3 : E_ d mX0_commonOf 3 ls (.int x :: st) h = if x = 0 then E_ d mX0_commonOf 6 ls st h else E_ d mX0_commonOf 10 ls st h := e_zne dX0_commonOf_3 rfl rfl
theorem wX0_commonOf_6 : E_ d mX0_commonOf 6 [.val (.long u), s1, s2, s3] st h = E_ d mX0_commonOf 7 [.val (.long u), s1, s2, s3] (.long u :: st) h := e_go dX0_commonOf_6 rfl rfl
theorem wX0_commonOf_7 : E_ d mX0_commonOf 7 ls st h = E_ d mX0_commonOf 17 ls st h := e_gt dX0_commonOf_7 rfl
theorem wX0_commonOf_10 : E_ d mX0_commonOf 10 [s0, s1, .val (.long u), s3] st h = E_ d mX0_commonOf 11 [s0, s1, .val (.long u), s3] (.long u :: st) h := e_go dX0_commonOf_10 rfl rfl
theorem wX0_commonOf_11 : E_ d mX0_commonOf 11 [.val (.long u), s1, s2, s3] st h = E_ d mX0_commonOf 12 [.val (.long u), s1, s2, s3] (.long u :: st) h := e_go dX0_commonOf_11 rfl rfl
theorem wX0_commonOf_12 : E_ d mX0_commonOf 12 [s0, s1, .val (.long u), s3] st h = E_ d mX0_commonOf 13 [s0, s1, .val (.long u), s3] (.long u :: st) h := e_go dX0_commonOf_12 rfl rfl
theorem wX0_commonOf_13 (hy : ¬ v = 0) : E_ d mX0_commonOf 13 ls (.long v :: .long u :: st) h = E_ d mX0_commonOf 14 ls (.long (u - u / v * v) :: st) h := e_lrem dX0_commonOf_13 rfl hy
theorem wX0_commonOf_14 : E_ (d + 1) mX0_commonOf 14 ls [.long u2, .long u1] h = (C_ d mX0_commonOf [.long u1, .long u2] h).bind fun r => E_ (d + 1) mX0_commonOf 17 ls (xpu r.1 []) r.2 := e_call dX0_commonOf_14 rfl rfl
theorem wX0_commonOf_17 : E_ d mX0_commonOf 17 ls [.long u] h = some (some (.long u), h) := e_rt dX0_commonOf_17 rfl rfl
/-! FootOut.repeals -/
theorem wX0_repeals_0 : E_ d mX0_repeals 0 [s0, .val (.int x), s2, s3, s4, s5, s6, s7] st h = E_ d mX0_repeals 1 [s0, .val (.int x), s2, s3, s4, s5, s6, s7] (.int x :: st) h := e_go dX0_repeals_0 rfl rfl
theorem wX0_repeals_1 : E_ d mX0_repeals 1 ls (.int x :: st) h = E_ d mX0_repeals 2 ls (.long x.toInt64 :: st) h := e_go dX0_repeals_1 rfl rfl
theorem wX0_repeals_2 : E_ d mX0_repeals 2 ls st h = E_ d mX0_repeals 3 ls (.long 0 :: st) h := e_go dX0_repeals_2 rfl rfl
theorem wX0_repeals_3 : E_ d mX0_repeals 3 [.val (.ref a), s1, s2, s3, s4, s5, s6, s7] st h = E_ d mX0_repeals 4 [.val (.ref a), s1, s2, s3, s4, s5, s6, s7] (.ref a :: st) h := e_go dX0_repeals_3 rfl rfl
theorem wX0_repeals_4 (ht : oT h a = 1) : E_ d mX0_repeals 4 ls (.ref a :: st) h = E_ d mX0_repeals 7 ls (va_rf (oR h a 0) :: st) h := e_getR dX0_repeals_4 rfl rfl ht
theorem wX0_repeals_7 (ht : oT h a = 2) : E_ d mX0_repeals 7 ls (.ref a :: st) h = E_ d mX0_repeals 10 ls (va_rf (oR h a 1) :: st) h := e_getR dX0_repeals_7 rfl rfl ht
theorem wX0_repeals_10 (ht : oT h a = 4) : E_ (d + 1) mX0_repeals 10 ls [.ref a, .long u1, .long u2] h = (C_ d mJ2_size [.ref a] h).bind fun r => E_ (d + 1) mX0_repeals 13 ls (xpu r.1 [.long u1, .long u2]) r.2 := e_vir dX0_repeals_10 rfl rfl rfl rfl rfl rfl (Nat.le_of_ble_eq_true rfl) (Nat.le_of_ble_eq_true rfl) ht
theorem wX0_repeals_13 : E_ d mX0_repeals 13 ls st h = E_ d mX0_repeals 14 ls (.int (nI 1) :: st) h := e_iconst dX0_repeals_13 kiconst_1 rfl
theorem wX0_repeals_14 : E_ d mX0_repeals 14 ls (.int y :: .int x :: st) h = E_ d mX0_repeals 15 ls (.int (x - y) :: st) h := e_go dX0_repeals_14 rfl rfl
theorem wX0_repeals_15 : E_ d mX0_repeals 15 ls (.int x :: st) h = E_ d mX0_repeals 16 ls (.long x.toInt64 :: st) h := e_go dX0_repeals_15 rfl rfl
theorem wX0_repeals_16 : E_ (d + 1) mX0_repeals 16 ls [.long u3, .long u2, .long u1] h = (C_ d mX0_in [.long u1, .long u2, .long u3] h).bind fun r => E_ (d + 1) mX0_repeals 19 ls (xpu r.1 []) r.2 := e_call dX0_repeals_16 rfl rfl
theorem wX0_repeals_19 : E_ d mX0_repeals 19 ls (.int x :: st) h = if x = 0 then E_ d mX0_repeals 22 ls st h else E_ d mX0_repeals 30 ls st h := e_zne dX0_repeals_19 rfl rfl
theorem wX0_repeals_22 : E_ d mX0_repeals 22 [.val (.ref a), s1, s2, s3, s4, s5, s6, s7] st h = E_ d mX0_repeals 23 [.val (.ref a), s1, s2, s3, s4, s5, s6, s7] (.ref a :: st) h := e_go dX0_repeals_22 rfl rfl
theorem wX0_repeals_23 : E_ d mX0_repeals 23 ls st h = E_ d mX0_repeals 25 ls (.int ((-2)) :: st) h := e_bipush dX0_repeals_23 kbipush_m2 rfl
theorem wX0_repeals_25 (ht : oT h a = 1) : E_ (d + 1) mX0_repeals 25 ls [.int x1, .ref a] h = (C_ d mX0_no [.ref a, .int x1] h).bind fun r => E_ (d + 1) mX0_repeals 28 ls (xpu r.1 []) r.2 := e_vir dX0_repeals_25 rfl rfl rfl rfl rfl rfl (Nat.le_of_ble_eq_true rfl) (Nat.le_of_ble_eq_true rfl) ht
theorem wX0_repeals_28 : E_ d mX0_repeals 28 ls (.int x :: st) h = E_ d mX0_repeals 29 ls (.long x.toInt64 :: st) h := e_go dX0_repeals_28 rfl rfl
theorem wX0_repeals_29 : E_ d mX0_repeals 29 ls [.long u] h = some (some (.long u), h) := e_rt dX0_repeals_29 rfl rfl
theorem wX0_repeals_30 : E_ d mX0_repeals 30 [.val (.ref a), s1, s2, s3, s4, s5, s6, s7] st h = E_ d mX0_repeals 31 [.val (.ref a), s1, s2, s3, s4, s5, s6, s7] (.ref a :: st) h := e_go dX0_repeals_30 rfl rfl
theorem wX0_repeals_31 (ht : oT h a = 1) : E_ d mX0_repeals 31 ls (.ref a :: st) h = E_ d mX0_repeals 34 ls (va_rf (oR h a 0) :: st) h := e_getR dX0_repeals_31 rfl rfl ht
theorem wX0_repeals_34 (ht : oT h a = 2) : E_ d mX0_repeals 34 ls (.ref a :: st) h = E_ d mX0_repeals 37 ls (va_rf (oR h a 1) :: st) h := e_getR dX0_repeals_34 rfl rfl ht
theorem wX0_repeals_37 : E_ d mX0_repeals 37 [s0, s1, s2, s3, s4, s5, s6, s7] (.ref a :: st) h = E_ d mX0_repeals 38 [s0, xk s1, .val (.ref a), s3, s4, s5, s6, s7] st h := e_go dX0_repeals_37 rfl rfl
theorem wX0_repeals_38 : E_ d mX0_repeals 38 ls st h = E_ d mX0_repeals 41 ls (.ref (oX h) :: st) (pO h 4 3) := e_go dX0_repeals_38 rfl rfl
theorem wX0_repeals_41 : E_ d mX0_repeals 41 ls (.ref a :: st) h = E_ d mX0_repeals 42 ls (.ref a :: .ref a :: st) h := e_go dX0_repeals_41 rfl rfl
theorem wX0_repeals_42 : E_ d mX0_repeals 42 ls st h = E_ d mX0_repeals 43 ls (.int (nI 2) :: st) h := e_iconst dX0_repeals_42 kiconst_2 rfl
theorem wX0_repeals_43 : E_ (d + 1) mX0_repeals 43 ls [.int x1, .ref a, .ref r1] h = (C_ d mJ2_init [.ref a, .int x1] h).bind fun r => E_ (d + 1) mX0_repeals 46 ls (xpu r.1 [.ref r1]) r.2 := e_call dX0_repeals_43 rfl rfl
theorem wX0_repeals_46 : E_ d mX0_repeals 46 [s0, s1, s2, s3, s4, s5, s6, s7] (.ref a :: st) h = E_ d mX0_repeals 47 [s0, s1, xk s2, .val (.ref a), s4, s5, s6, s7] st h := e_go dX0_repeals_46 rfl rfl
theorem wX0_repeals_47 : E_ d mX0_repeals 47 ls st h = E_ d mX0_repeals 48 ls (.int (nI 0) :: st) h := e_iconst dX0_repeals_47 kiconst_0 rfl
theorem wX0_repeals_48 : E_ d mX0_repeals 48 [s0, s1, s2, s3, s4, s5, s6, s7] (.int x :: st) h = E_ d mX0_repeals 50 [s0, s1, s2, xk s3, .val (.int x), s5, s6, s7] st h := e_go dX0_repeals_48 rfl rfl
theorem wX0_repeals_50 : E_ d mX0_repeals 50 [s0, s1, s2, s3, .val (.int x), s5, s6, s7] st h = E_ d mX0_repeals 52 [s0, s1, s2, s3, .val (.int x), s5, s6, s7] (.int x :: st) h := e_go dX0_repeals_50 rfl rfl
theorem wX0_repeals_52 : E_ d mX0_repeals 52 [s0, s1, .val (.ref a), s3, s4, s5, s6, s7] st h = E_ d mX0_repeals 53 [s0, s1, .val (.ref a), s3, s4, s5, s6, s7] (.ref a :: st) h := e_go dX0_repeals_52 rfl rfl
theorem wX0_repeals_53 (ht : oT h a = 4) : E_ (d + 1) mX0_repeals 53 ls [.ref a, .int x1] h = (C_ d mJ2_size [.ref a] h).bind fun r => E_ (d + 1) mX0_repeals 56 ls (xpu r.1 [.int x1]) r.2 := e_vir dX0_repeals_53 rfl rfl rfl rfl rfl rfl (Nat.le_of_ble_eq_true rfl) (Nat.le_of_ble_eq_true rfl) ht
theorem wX0_repeals_56 : E_ d mX0_repeals 56 ls (.int y :: .int x :: st) h = if x < y then E_ d mX0_repeals 59 ls st h else E_ d mX0_repeals 85 ls st h := e_ige dX0_repeals_56 rfl rfl
theorem wX0_repeals_59 : E_ d mX0_repeals 59 [s0, s1, s2, s3, .val (.int x), s5, s6, s7] st h = E_ d mX0_repeals 61 [s0, s1, s2, s3, .val (.int x), s5, s6, s7] (.int x :: st) h := e_go dX0_repeals_59 rfl rfl
theorem wX0_repeals_61 : E_ d mX0_repeals 61 [s0, .val (.int x), s2, s3, s4, s5, s6, s7] st h = E_ d mX0_repeals 62 [s0, .val (.int x), s2, s3, s4, s5, s6, s7] (.int x :: st) h := e_go dX0_repeals_61 rfl rfl
theorem wX0_repeals_62 : E_ d mX0_repeals 62 ls (.int y :: .int x :: st) h = if x = y then E_ d mX0_repeals 79 ls st h else E_ d mX0_repeals 65 ls st h := e_ieq dX0_repeals_62 rfl rfl
theorem wX0_repeals_65 : E_ d mX0_repeals 65 [s0, s1, s2, .val (.ref a), s4, s5, s6, s7] st h = E_ d mX0_repeals 66 [s0, s1, s2, .val (.ref a), s4, s5, s6, s7] (.ref a :: st) h := e_go dX0_repeals_65 rfl rfl
theorem wX0_repeals_66 : E_ d mX0_repeals 66 [s0, s1, .val (.ref a), s3, s4, s5, s6, s7] st h = E_ d mX0_repeals 67 [s0, s1, .val (.ref a), s3, s4, s5, s6, s7] (.ref a :: st) h := e_go dX0_repeals_66 rfl rfl
theorem wX0_repeals_67 : E_ d mX0_repeals 67 [s0, s1, s2, s3, .val (.int x), s5, s6, s7] st h = E_ d mX0_repeals 69 [s0, s1, s2, s3, .val (.int x), s5, s6, s7] (.int x :: st) h := e_go dX0_repeals_67 rfl rfl
theorem wX0_repeals_69 (ht : oT h a = 4) : E_ (d + 1) mX0_repeals 69 ls [.int x1, .ref a, .ref r1] h = (C_ d mJ2_get [.ref a, .int x1] h).bind fun r => E_ (d + 1) mX0_repeals 72 ls (xpu r.1 [.ref r1]) r.2 := e_vir dX0_repeals_69 rfl rfl rfl rfl rfl rfl (Nat.le_of_ble_eq_true rfl) (Nat.le_of_ble_eq_true rfl) ht
theorem wX0_repeals_72 (ht : oT h a = 18) : E_ d mX0_repeals 72 ls (.ref a :: st) h = E_ d mX0_repeals 75 ls (.ref a :: st) h := e_cast dX0_repeals_72 rfl rfl ht
theorem wX0_repeals_72n : E_ d mX0_repeals 72 ls (.null :: st) h = E_ d mX0_repeals 75 ls (.null :: st) h := e_go dX0_repeals_72 rfl rfl
theorem wX0_repeals_75 (ht : oT h a = 4) : E_ (d + 1) mX0_repeals 75 ls [.ref r1, .ref a] h = (C_ d mJ2_add [.ref a, .ref r1] h).bind fun r => E_ (d + 1) mX0_repeals 78 ls (xpu r.1 []) r.2 := e_vir dX0_repeals_75 rfl rfl rfl rfl rfl rfl (Nat.le_of_ble_eq_true rfl) (Nat.le_of_ble_eq_true rfl) ht
theorem wX0_repeals_78 : E_ d mX0_repeals 78 ls (.int x :: st) h = E_ d mX0_repeals 79 ls st h := e_go dX0_repeals_78 rfl rfl
theorem wX0_repeals_79 : E_ d mX0_repeals 79 [s0, s1, s2, s3, .val (.int x), s5, s6, s7] st h = E_ d mX0_repeals 82 [s0, s1, s2, xk s3, .val (.int (x + nI 1)), s5, s6, s7] st h := by rw [← kiinc_1]; exact e_go dX0_repeals_79 rfl rfl
theorem wX0_repeals_82 : E_ d mX0_repeals 82 ls st h = E_ d mX0_repeals 50 ls st h := e_gt dX0_repeals_82 rfl
theorem wX0_repeals_85 : E_ d mX0_repeals 85 [.val (.ref a), s1, s2, s3, s4, s5, s6, s7] st h = E_ d mX0_repeals 86 [.val (.ref a), s1, s2, s3, s4, s5, s6, s7] (.ref a :: st) h := e_go dX0_repeals_85 rfl rfl
theorem wX0_repeals_86 : E_ d mX0_repeals 86 [.val (.ref a), s1, s2, s3, s4, s5, s6, s7] st h = E_ d mX0_repeals 87 [.val (.ref a), s1, s2, s3, s4, s5, s6, s7] (.ref a :: st) h := e_go dX0_repeals_86 rfl rfl
theorem wX0_repeals_87 (ht : oT h a = 1) : E_ d mX0_repeals 87 ls (.ref a :: st) h = E_ d mX0_repeals 90 ls (va_rf (oR h a 0) :: st) h := e_getR dX0_repeals_87 rfl rfl ht
theorem wX0_repeals_90 (ht : oT h a = 2) : E_ d mX0_repeals 90 ls (.ref a :: st) h = E_ d mX0_repeals 93 ls (va_rf (oR h a 0) :: st) h := e_getR dX0_repeals_90 rfl rfl ht
theorem wX0_repeals_93 (ht : oT h a = 3) : E_ d mX0_repeals 93 ls (.ref a :: st) h = E_ d mX0_repeals 96 ls (.int (oI h a 2) :: st) h := e_getI dX0_repeals_93 rfl rfl ht
theorem wX0_repeals_96 (ht : oT h a = 1) : E_ (d + 1) mX0_repeals 96 ls [.int x1, .ref a] h = (C_ d mX0_overBy [.ref a, .int x1] h).bind fun r => E_ (d + 1) mX0_repeals 99 ls (xpu r.1 []) r.2 := e_vir dX0_repeals_96 rfl rfl rfl rfl rfl rfl (Nat.le_of_ble_eq_true rfl) (Nat.le_of_ble_eq_true rfl) ht
theorem wX0_repeals_99 : E_ d mX0_repeals 99 [s0, s1, s2, s3, s4, s5, s6, s7] (.long u :: st) h = E_ d mX0_repeals 101 [s0, s1, s2, xk s3, .val (.long u), .unset, s6, s7] st h := e_go dX0_repeals_99 rfl rfl
theorem wX0_repeals_101 : E_ d mX0_repeals 101 [.val (.ref a), s1, s2, s3, s4, s5, s6, s7] st h = E_ d mX0_repeals 102 [.val (.ref a), s1, s2, s3, s4, s5, s6, s7] (.ref a :: st) h := e_go dX0_repeals_101 rfl rfl
theorem wX0_repeals_102 (ht : oT h a = 1) : E_ d mX0_repeals 102 ls (.ref a :: st) h = E_ d mX0_repeals 105 ls (va_rf (oR h a 0) :: st) h := e_getR dX0_repeals_102 rfl rfl ht
theorem wX0_repeals_105 : E_ d mX0_repeals 105 [s0, s1, s2, .val (.ref a), s4, s5, s6, s7] st h = E_ d mX0_repeals 106 [s0, s1, s2, .val (.ref a), s4, s5, s6, s7] (.ref a :: st) h := e_go dX0_repeals_105 rfl rfl
theorem wX0_repeals_106 (ht : oT h a = 2) : E_ d mX0_repeals 106 ls (.ref b :: .ref a :: st) h = E_ d mX0_repeals 109 ls st (pR h a (va_up (oR h a) 1 (some b))) := e_putR dX0_repeals_106 rfl rfl ht
theorem wX0_repeals_109 : E_ d mX0_repeals 109 [.val (.ref a), s1, s2, s3, s4, s5, s6, s7] st h = E_ d mX0_repeals 110 [.val (.ref a), s1, s2, s3, s4, s5, s6, s7] (.ref a :: st) h := e_go dX0_repeals_109 rfl rfl
theorem wX0_repeals_110 : E_ d mX0_repeals 110 [.val (.ref a), s1, s2, s3, s4, s5, s6, s7] st h = E_ d mX0_repeals 111 [.val (.ref a), s1, s2, s3, s4, s5, s6, s7] (.ref a :: st) h := e_go dX0_repeals_110 rfl rfl
theorem wX0_repeals_111 (ht : oT h a = 1) : E_ d mX0_repeals 111 ls (.ref a :: st) h = E_ d mX0_repeals 114 ls (va_rf (oR h a 0) :: st) h := e_getR dX0_repeals_111 rfl rfl ht
theorem wX0_repeals_114 (ht : oT h a = 2) : E_ d mX0_repeals 114 ls (.ref a :: st) h = E_ d mX0_repeals 117 ls (va_rf (oR h a 0) :: st) h := e_getR dX0_repeals_114 rfl rfl ht
theorem wX0_repeals_117 (ht : oT h a = 3) : E_ d mX0_repeals 117 ls (.ref a :: st) h = E_ d mX0_repeals 120 ls (.int (oI h a 2) :: st) h := e_getI dX0_repeals_117 rfl rfl ht
theorem wX0_repeals_120 (ht : oT h a = 1) : E_ (d + 1) mX0_repeals 120 ls [.int x1, .ref a] h = (C_ d mX0_overBy [.ref a, .int x1] h).bind fun r => E_ (d + 1) mX0_repeals 123 ls (xpu r.1 []) r.2 := e_vir dX0_repeals_120 rfl rfl rfl rfl rfl rfl (Nat.le_of_ble_eq_true rfl) (Nat.le_of_ble_eq_true rfl) ht
theorem wX0_repeals_123 : E_ d mX0_repeals 123 [s0, s1, s2, s3, .val (.long u), s5, s6, s7] st h = E_ d mX0_repeals 125 [s0, s1, s2, s3, .val (.long u), s5, s6, s7] (.long u :: st) h := e_go dX0_repeals_123 rfl rfl
theorem wX0_repeals_125 : E_ d mX0_repeals 125 ls (.long v :: .long u :: st) h = E_ d mX0_repeals 126 ls (.long (u - v) :: st) h := e_go dX0_repeals_125 rfl rfl
theorem wX0_repeals_126 : E_ d mX0_repeals 126 [s0, s1, s2, s3, s4, s5, s6, s7] (.long u :: st) h = E_ d mX0_repeals 128 [s0, s1, s2, s3, s4, xk s5, .val (.long u), .unset] st h := e_go dX0_repeals_126 rfl rfl
theorem wX0_repeals_128 : E_ d mX0_repeals 128 [.val (.ref a), s1, s2, s3, s4, s5, s6, s7] st h = E_ d mX0_repeals 129 [.val (.ref a), s1, s2, s3, s4, s5, s6, s7] (.ref a :: st) h := e_go dX0_repeals_128 rfl rfl
theorem wX0_repeals_129 (ht : oT h a = 1) : E_ d mX0_repeals 129 ls (.ref a :: st) h = E_ d mX0_repeals 132 ls (va_rf (oR h a 0) :: st) h := e_getR dX0_repeals_129 rfl rfl ht
theorem wX0_repeals_132 : E_ d mX0_repeals 132 [s0, s1, .val (.ref a), s3, s4, s5, s6, s7] st h = E_ d mX0_repeals 133 [s0, s1, .val (.ref a), s3, s4, s5, s6, s7] (.ref a :: st) h := e_go dX0_repeals_132 rfl rfl
theorem wX0_repeals_133 (ht : oT h a = 2) : E_ d mX0_repeals 133 ls (.ref b :: .ref a :: st) h = E_ d mX0_repeals 136 ls st (pR h a (va_up (oR h a) 1 (some b))) := e_putR dX0_repeals_133 rfl rfl ht
theorem wX0_repeals_136 : E_ d mX0_repeals 136 [s0, s1, s2, s3, s4, s5, .val (.long u), s7] st h = E_ d mX0_repeals 138 [s0, s1, s2, s3, s4, s5, .val (.long u), s7] (.long u :: st) h := e_go dX0_repeals_136 rfl rfl
theorem wX0_repeals_138 : E_ d mX0_repeals 138 ls [.long u] h = some (some (.long u), h) := e_rt dX0_repeals_138 rfl rfl
/-! FootOut.absent -/
theorem wX0_absent_0 : E_ d mX0_absent 0 [.val (.ref a), s1, s2, s3, s4] st h = E_ d mX0_absent 1 [.val (.ref a), s1, s2, s3, s4] (.ref a :: st) h := e_go dX0_absent_0 rfl rfl
theorem wX0_absent_1 : E_ d mX0_absent 1 [s0, .val (.int x), s2, s3, s4] st h = E_ d mX0_absent 2 [s0, .val (.int x), s2, s3, s4] (.int x :: st) h := e_go dX0_absent_1 rfl rfl
theorem wX0_absent_2 (ht : oT h a = 1) : E_ (d + 1) mX0_absent 2 ls [.int x1, .ref a] h = (C_ d mX0_isCar [.ref a, .int x1] h).bind fun r => E_ (d + 1) mX0_absent 5 ls (xpu r.1 []) r.2 := e_vir dX0_absent_2 rfl rfl rfl rfl rfl rfl (Nat.le_of_ble_eq_true rfl) (Nat.le_of_ble_eq_true rfl) ht
theorem wX0_absent_5 : E_ d mX0_absent 5 ls (.int x :: st) h = if x = 0 then E_ d mX0_absent 8 ls st h else E_ d mX0_absent 16 ls st h := e_zne dX0_absent_5 rfl rfl
theorem wX0_absent_8 : E_ d mX0_absent 8 [.val (.ref a), s1, s2, s3, s4] st h = E_ d mX0_absent 9 [.val (.ref a), s1, s2, s3, s4] (.ref a :: st) h := e_go dX0_absent_8 rfl rfl
theorem wX0_absent_9 : E_ d mX0_absent 9 ls st h = E_ d mX0_absent 11 ls (.int ((-2)) :: st) h := e_bipush dX0_absent_9 kbipush_m2 rfl
theorem wX0_absent_11 (ht : oT h a = 1) : E_ (d + 1) mX0_absent 11 ls [.int x1, .ref a] h = (C_ d mX0_no [.ref a, .int x1] h).bind fun r => E_ (d + 1) mX0_absent 14 ls (xpu r.1 []) r.2 := e_vir dX0_absent_11 rfl rfl rfl rfl rfl rfl (Nat.le_of_ble_eq_true rfl) (Nat.le_of_ble_eq_true rfl) ht
theorem wX0_absent_14 : E_ d mX0_absent 14 ls (.int x :: st) h = E_ d mX0_absent 15 ls (.long x.toInt64 :: st) h := e_go dX0_absent_14 rfl rfl
theorem wX0_absent_15 : E_ d mX0_absent 15 ls [.long u] h = some (some (.long u), h) := e_rt dX0_absent_15 rfl rfl
theorem wX0_absent_16 : E_ d mX0_absent 16 [.val (.ref a), s1, s2, s3, s4] st h = E_ d mX0_absent 17 [.val (.ref a), s1, s2, s3, s4] (.ref a :: st) h := e_go dX0_absent_16 rfl rfl
theorem wX0_absent_17 : E_ d mX0_absent 17 [.val (.ref a), s1, s2, s3, s4] st h = E_ d mX0_absent 18 [.val (.ref a), s1, s2, s3, s4] (.ref a :: st) h := e_go dX0_absent_17 rfl rfl
theorem wX0_absent_18 (ht : oT h a = 1) : E_ d mX0_absent 18 ls (.ref a :: st) h = E_ d mX0_absent 21 ls (va_rf (oR h a 0) :: st) h := e_getR dX0_absent_18 rfl rfl ht
theorem wX0_absent_21 (ht : oT h a = 2) : E_ d mX0_absent 21 ls (.ref a :: st) h = E_ d mX0_absent 24 ls (va_rf (oR h a 0) :: st) h := e_getR dX0_absent_21 rfl rfl ht
theorem wX0_absent_24 (ht : oT h a = 1) : E_ (d + 1) mX0_absent 24 ls [.ref r1, .ref a] h = (C_ d mX0_gathers [.ref a, .ref r1] h).bind fun r => E_ (d + 1) mX0_absent 27 ls (xpu r.1 []) r.2 := e_vir dX0_absent_24 rfl rfl rfl rfl rfl rfl (Nat.le_of_ble_eq_true rfl) (Nat.le_of_ble_eq_true rfl) ht
theorem wX0_absent_27 : E_ d mX0_absent 27 [.val (.ref a), s1, s2, s3, s4] st h = E_ d mX0_absent 28 [.val (.ref a), s1, s2, s3, s4] (.ref a :: st) h := e_go dX0_absent_27 rfl rfl
theorem wX0_absent_28 (ht : oT h a = 1) : E_ d mX0_absent 28 ls (.ref a :: st) h = E_ d mX0_absent 31 ls (va_rf (oR h a 10) :: st) h := e_getR0 dX0_absent_28 rfl rfl ht
theorem wX0_absent_31 : E_ d mX0_absent 31 ls st h = E_ d mX0_absent 32 ls (.int (nI 1) :: st) h := e_iconst dX0_absent_31 kiconst_1 rfl
theorem wX0_absent_32 (ht : oT h a = 44) (hi : xix x (oN h a) = true) : E_ d mX0_absent 32 ls (.int x :: .ref a :: st) h = E_ d mX0_absent 33 ls (.long (oL h a x.toNatClampNeg) :: st) h := e_lald dX0_absent_32 rfl ht hi
theorem wX0_absent_33 : E_ d mX0_absent 33 [s0, s1, s2, s3, s4] (.long u :: st) h = E_ d mX0_absent 34 [s0, xk s1, .val (.long u), .unset, s4] st h := e_go dX0_absent_33 rfl rfl
theorem wX0_absent_34 : E_ d mX0_absent 34 [.val (.ref a), s1, s2, s3, s4] st h = E_ d mX0_absent 35 [.val (.ref a), s1, s2, s3, s4] (.ref a :: st) h := e_go dX0_absent_34 rfl rfl
theorem wX0_absent_35 (ht : oT h a = 1) : E_ d mX0_absent 35 ls (.ref a :: st) h = E_ d mX0_absent 38 ls (va_rf (oR h a 0) :: st) h := e_getR dX0_absent_35 rfl rfl ht
theorem wX0_absent_38 (ht : oT h a = 2) : E_ d mX0_absent 38 ls (.ref a :: st) h = E_ d mX0_absent 41 ls (va_rf (oR h a 0) :: st) h := e_getR dX0_absent_38 rfl rfl ht
theorem wX0_absent_41 (ht : oT h a = 3) : E_ (d + 1) mX0_absent 41 ls [.ref a] h = (C_ d mX2_copy [.ref a] h).bind fun r => E_ (d + 1) mX0_absent 44 ls (xpu r.1 []) r.2 := e_vir dX0_absent_41 rfl rfl rfl rfl rfl rfl (Nat.le_of_ble_eq_true rfl) (Nat.le_of_ble_eq_true rfl) ht
theorem wX0_absent_44 : E_ d mX0_absent 44 [s0, s1, s2, s3, s4] (.ref a :: st) h = E_ d mX0_absent 46 [s0, s1, s2, xk s3, .val (.ref a)] st h := e_go dX0_absent_44 rfl rfl
theorem wX0_absent_46 : E_ d mX0_absent 46 [s0, s1, s2, s3, .val (.ref a)] st h = E_ d mX0_absent 48 [s0, s1, s2, s3, .val (.ref a)] (.ref a :: st) h := e_go dX0_absent_46 rfl rfl
theorem wX0_absent_48 (ht : oT h a = 3) : E_ d mX0_absent 48 ls (.ref a :: st) h = E_ d mX0_absent 51 ls (va_rf (oR h a 0) :: st) h := e_getR0 dX0_absent_48 rfl rfl ht
theorem wX0_absent_51 : E_ d mX0_absent 51 [s0, .val (.int x), s2, s3, s4] st h = E_ d mX0_absent 52 [s0, .val (.int x), s2, s3, s4] (.int x :: st) h := e_go dX0_absent_51 rfl rfl
theorem wX0_absent_52 (ht : oT h a = 4) : E_ (d + 1) mX0_absent 52 ls [.int x1, .ref a] h = (C_ d mJ2_remove [.ref a, .int x1] h).bind fun r => E_ (d + 1) mX0_absent 55 ls (xpu r.1 []) r.2 := e_vir dX0_absent_52 rfl rfl rfl rfl rfl rfl (Nat.le_of_ble_eq_true rfl) (Nat.le_of_ble_eq_true rfl) ht
theorem wX0_absent_55 : E_ d mX0_absent 55 ls (.ref a :: st) h = E_ d mX0_absent 56 ls st h := e_go dX0_absent_55 rfl rfl
theorem wX0_absent_56 : E_ d mX0_absent 56 [.val (.ref a), s1, s2, s3, s4] st h = E_ d mX0_absent 57 [.val (.ref a), s1, s2, s3, s4] (.ref a :: st) h := e_go dX0_absent_56 rfl rfl
theorem wX0_absent_57 : E_ d mX0_absent 57 [s0, s1, s2, s3, .val (.ref a)] st h = E_ d mX0_absent 59 [s0, s1, s2, s3, .val (.ref a)] (.ref a :: st) h := e_go dX0_absent_57 rfl rfl
theorem wX0_absent_59 (ht : oT h a = 1) : E_ (d + 1) mX0_absent 59 ls [.ref r1, .ref a] h = (C_ d mX0_gathers [.ref a, .ref r1] h).bind fun r => E_ (d + 1) mX0_absent 62 ls (xpu r.1 []) r.2 := e_vir dX0_absent_59 rfl rfl rfl rfl rfl rfl (Nat.le_of_ble_eq_true rfl) (Nat.le_of_ble_eq_true rfl) ht
theorem wX0_absent_62 : E_ d mX0_absent 62 ls st h = E_ d mX0_absent 65 ls (.long (100) :: st) h := e_go dX0_absent_62 rfl rfl
theorem wX0_absent_65 : E_ d mX0_absent 65 [.val (.ref a), s1, s2, s3, s4] st h = E_ d mX0_absent 66 [.val (.ref a), s1, s2, s3, s4] (.ref a :: st) h := e_go dX0_absent_65 rfl rfl
theorem wX0_absent_66 (ht : oT h a = 1) : E_ d mX0_absent 66 ls (.ref a :: st) h = E_ d mX0_absent 69 ls (va_rf (oR h a 10) :: st) h := e_getR0 dX0_absent_66 rfl rfl ht
theorem wX0_absent_69 : E_ d mX0_absent 69 ls st h = E_ d mX0_absent 70 ls (.int (nI 1) :: st) h := e_iconst dX0_absent_69 kiconst_1 rfl
theorem wX0_absent_70 (ht : oT h a = 44) (hi : xix x (oN h a) = true) : E_ d mX0_absent 70 ls (.int x :: .ref a :: st) h = E_ d mX0_absent 71 ls (.long (oL h a x.toNatClampNeg) :: st) h := e_lald dX0_absent_70 rfl ht hi
theorem wX0_absent_71 : E_ d mX0_absent 71 ls (.long v :: .long u :: st) h = E_ d mX0_absent 72 ls (.long (u * v) :: st) h := e_go dX0_absent_71 rfl rfl
theorem wX0_absent_72 : E_ d mX0_absent 72 [s0, s1, .val (.long u), s3, s4] st h = E_ d mX0_absent 73 [s0, s1, .val (.long u), s3, s4] (.long u :: st) h := e_go dX0_absent_72 rfl rfl
theorem wX0_absent_73 : E_ d mX0_absent 73 ls (.long v :: .long u :: st) h = E_ d mX0_absent 74 ls (.long (u - v) :: st) h := e_go dX0_absent_73 rfl rfl
theorem wX0_absent_74 : E_ d mX0_absent 74 ls [.long u] h = some (some (.long u), h) := e_rt dX0_absent_74 rfl rfl
/-! FootOut.margin -/
theorem wX0_margin_0 : E_ d mX0_margin 0 [.val (.ref a), s1, s2, s3] st h = E_ d mX0_margin 1 [.val (.ref a), s1, s2, s3] (.ref a :: st) h := e_go dX0_margin_0 rfl rfl
theorem wX0_margin_1 (ht : oT h a = 1) : E_ d mX0_margin 1 ls (.ref a :: st) h = E_ d mX0_margin 4 ls (va_rf (oR h a 7) :: st) h := e_getR0 dX0_margin_1 rfl rfl ht
theorem wX0_margin_4 : E_ d mX0_margin 4 [.val (.ref a), s1, s2, s3] st h = E_ d mX0_margin 5 [.val (.ref a), s1, s2, s3] (.ref a :: st) h := e_go dX0_margin_4 rfl rfl
theorem wX0_margin_5 (ht : oT h a = 1) : E_ d mX0_margin 5 ls (.ref a :: st) h = E_ d mX0_margin 8 ls (va_rf (oR h a 0) :: st) h := e_getR dX0_margin_5 rfl rfl ht
theorem wX0_margin_8 (ht : oT h a = 2) : E_ d mX0_margin 8 ls (.ref a :: st) h = E_ d mX0_margin 11 ls (va_rf (oR h a 0) :: st) h := e_getR dX0_margin_8 rfl rfl ht
theorem wX0_margin_11 (ht : oT h a = 5) : E_ (d + 1) mX0_margin 11 ls [.ref r1, .ref a] h = (C_ d mX3_begins [.ref a, .ref r1] h).bind fun r => E_ (d + 1) mX0_margin 14 ls (xpu r.1 []) r.2 := e_vir dX0_margin_11 rfl rfl rfl rfl rfl rfl (Nat.le_of_ble_eq_true rfl) (Nat.le_of_ble_eq_true rfl) ht
theorem wX0_margin_14 : E_ d mX0_margin 14 ls (.ref a :: st) h = E_ d mX0_margin 15 ls st h := e_go dX0_margin_14 rfl rfl
theorem wX0_margin_15 : E_ d mX0_margin 15 [.val (.ref a), s1, s2, s3] st h = E_ d mX0_margin 16 [.val (.ref a), s1, s2, s3] (.ref a :: st) h := e_go dX0_margin_15 rfl rfl
theorem wX0_margin_16 : E_ d mX0_margin 16 [s0, .val (.int x), s2, s3] st h = E_ d mX0_margin 17 [s0, .val (.int x), s2, s3] (.int x :: st) h := e_go dX0_margin_16 rfl rfl
theorem wX0_margin_17 (ht : oT h a = 1) : E_ d mX0_margin 17 ls (.int x :: .ref a :: st) h = E_ d mX0_margin 20 ls st (pI h a (va_up (oI h a) 8 x)) := e_putI dX0_margin_17 rfl rfl ht
theorem wX0_margin_20 : E_ d mX0_margin 20 ls st h = E_ d mX0_margin 21 ls (.int ((-1)) :: st) h := e_iconst dX0_margin_20 kiconst_m1 rfl
theorem wX0_margin_21 : E_ d mX0_margin 21 [s0, s1, s2, s3] (.int x :: st) h = E_ d mX0_margin 22 [s0, xk s1, .val (.int x), s3] st h := e_go dX0_margin_21 rfl rfl
theorem wX0_margin_22 : E_ d mX0_margin 22 [.val (.ref a), s1, s2, s3] st h = E_ d mX0_margin 23 [.val (.ref a), s1, s2, s3] (.ref a :: st) h := e_go dX0_margin_22 rfl rfl
theorem wX0_margin_23 (ht : oT h a = 1) : E_ d mX0_margin 23 ls (.ref a :: st) h = E_ d mX0_margin 26 ls (va_rf (oR h a 7) :: st) h := e_getR0 dX0_margin_23 rfl rfl ht
theorem wX0_margin_26 (ht : oT h a = 5) : E_ d mX0_margin 26 ls (.ref a :: st) h = E_ d mX0_margin 29 ls (.int (oI h a 10) :: st) h := e_getI dX0_margin_26 rfl rfl ht
theorem wX0_margin_29 : E_ d mX0_margin 29 ls (.int x :: st) h = if x = 0 then E_ d mX0_margin 32 ls st h else E_ d mX0_margin 76 ls st h := e_zne dX0_margin_29 rfl rfl
theorem wX0_margin_32 : E_ d mX0_margin 32 [.val (.ref a), s1, s2, s3] st h = E_ d mX0_margin 33 [.val (.ref a), s1, s2, s3] (.ref a :: st) h := e_go dX0_margin_32 rfl rfl
theorem wX0_margin_33 : E_ d mX0_margin 33 [.val (.ref a), s1, s2, s3] st h = E_ d mX0_margin 34 [.val (.ref a), s1, s2, s3] (.ref a :: st) h := e_go dX0_margin_33 rfl rfl
theorem wX0_margin_34 (ht : oT h a = 1) : E_ d mX0_margin 34 ls (.ref a :: st) h = E_ d mX0_margin 37 ls (va_rf (oR h a 7) :: st) h := e_getR0 dX0_margin_34 rfl rfl ht
theorem wX0_margin_37 (ht : oT h a = 1) : E_ (d + 1) mX0_margin 37 ls [.ref r1, .ref a] h = (C_ d mX0_tick [.ref a, .ref r1] h).bind fun r => E_ (d + 1) mX0_margin 40 ls (xpu r.1 []) r.2 := e_vir dX0_margin_37 rfl rfl rfl rfl rfl rfl (Nat.le_of_ble_eq_true rfl) (Nat.le_of_ble_eq_true rfl) ht
theorem wX0_margin_40 : E_ d mX0_margin 40 [.val (.ref a), s1, s2, s3] st h = E_ d mX0_margin 41 [.val (.ref a), s1, s2, s3] (.ref a :: st) h := e_go dX0_margin_40 rfl rfl
theorem wX0_margin_41 : E_ d mX0_margin 41 [.val (.ref a), s1, s2, s3] st h = E_ d mX0_margin 42 [.val (.ref a), s1, s2, s3] (.ref a :: st) h := e_go dX0_margin_41 rfl rfl
theorem wX0_margin_42 (ht : oT h a = 1) : E_ d mX0_margin 42 ls (.ref a :: st) h = E_ d mX0_margin 45 ls (va_rf (oR h a 7) :: st) h := e_getR0 dX0_margin_42 rfl rfl ht
theorem wX0_margin_45 (ht : oT h a = 1) : E_ (d + 1) mX0_margin 45 ls [.ref r1, .ref a] h = (C_ d mX0_off [.ref a, .ref r1] h).bind fun r => E_ (d + 1) mX0_margin 48 ls (xpu r.1 []) r.2 := e_vir dX0_margin_45 rfl rfl rfl rfl rfl rfl (Nat.le_of_ble_eq_true rfl) (Nat.le_of_ble_eq_true rfl) ht
theorem wX0_margin_48 : E_ d mX0_margin 48 [s0, s1, s2, s3] (.int x :: st) h = E_ d mX0_margin 49 [s0, s1, xk s2, .val (.int x)] st h := e_go dX0_margin_48 rfl rfl
theorem wX0_margin_49 : E_ d mX0_margin 49 [s0, s1, s2, .val (.int x)] st h = E_ d mX0_margin 50 [s0, s1, s2, .val (.int x)] (.int x :: st) h := e_go dX0_margin_49 rfl rfl
theorem wX0_margin_50 : E_ d mX0_margin 50 ls st h = E_ d mX0_margin 51 ls (.int ((-1)) :: st) h := e_iconst dX0_margin_50 kiconst_m1 rfl
theorem wX0_margin_51 : E_ d mX0_margin 51 ls (.int y :: .int x :: st) h = if x = y then E_ d mX0_margin 54 ls st h else E_ d mX0_margin 58 ls st h := e_ine dX0_margin_51 rfl rfl
theorem wX0_margin_54 : E_ d mX0_margin 54 [s0, s1, .val (.int x), s3] st h = E_ d mX0_margin 55 [s0, s1, .val (.int x), s3] (.int x :: st) h := e_go dX0_margin_54 rfl rfl
theorem wX0_margin_55 : E_ d mX0_margin 55 ls st h = E_ d mX0_margin 72 ls st h := e_gt dX0_margin_55 rfl
theorem wX0_margin_58 : E_ d mX0_margin 58 [s0, s1, .val (.int x), s3] st h = E_ d mX0_margin 59 [s0, s1, .val (.int x), s3] (.int x :: st) h := e_go dX0_margin_58 rfl rfl
theorem wX0_margin_59 : E_ d mX0_margin 59 ls st h = E_ d mX0_margin 60 ls (.int ((-1)) :: st) h := e_iconst dX0_margin_59 kiconst_m1 rfl
theorem wX0_margin_60 : E_ d mX0_margin 60 ls (.int y :: .int x :: st) h = if x = y then E_ d mX0_margin 63 ls st h else E_ d mX0_margin 67 ls st h := e_ine dX0_margin_60 rfl rfl
theorem wX0_margin_63 : E_ d mX0_margin 63 [s0, s1, s2, .val (.int x)] st h = E_ d mX0_margin 64 [s0, s1, s2, .val (.int x)] (.int x :: st) h := e_go dX0_margin_63 rfl rfl
theorem wX0_margin_64 : E_ d mX0_margin 64 ls st h = E_ d mX0_margin 72 ls st h := e_gt dX0_margin_64 rfl
theorem wX0_margin_67 : E_ d mX0_margin 67 [s0, s1, .val (.int x), s3] st h = E_ d mX0_margin 68 [s0, s1, .val (.int x), s3] (.int x :: st) h := e_go dX0_margin_67 rfl rfl
theorem wX0_margin_68 : E_ d mX0_margin 68 [s0, s1, s2, .val (.int x)] st h = E_ d mX0_margin 69 [s0, s1, s2, .val (.int x)] (.int x :: st) h := e_go dX0_margin_68 rfl rfl
theorem wX0_margin_69 : E_ d mX0_margin 69 ls [.int x2, .int x1] h = (xP 7 [.int x1, .int x2] h).bind fun r => E_ d mX0_margin 72 ls (xpu r.1 []) r.2 := e_staP dX0_margin_69 rfl (Nat.le_of_ble_eq_true rfl) rfl rfl rfl (Nat.le_of_ble_eq_true rfl)
theorem wX0_margin_72 : E_ d mX0_margin 72 [s0, s1, s2, s3] (.int x :: st) h = E_ d mX0_margin 73 [s0, xk s1, .val (.int x), s3] st h := e_go dX0_margin_72 rfl rfl
theorem wX0_margin_73 : E_ d mX0_margin 73 ls st h = E_ d mX0_margin 22 ls st h := e_gt dX0_margin_73 rfl
theorem wX0_margin_76 : E_ d mX0_margin 76 [s0, s1, .val (.int x), s3] st h = E_ d mX0_margin 77 [s0, s1, .val (.int x), s3] (.int x :: st) h := e_go dX0_margin_76 rfl rfl
theorem wX0_margin_77 : E_ d mX0_margin 77 ls [.int x] h = some (some (.int x), h) := e_rt dX0_margin_77 rfl rfl
/-! FootOut.off -/
theorem wX0_off_0 : E_ d mX0_off 0 ls st h = E_ d mX0_off 1 ls (.int ((-1)) :: st) h := e_iconst dX0_off_0 kiconst_m1 rfl
theorem wX0_off_1 : E_ d mX0_off 1 [s0, s1, s2, s3] (.int x :: st) h = E_ d mX0_off 2 [s0, xk s1, .val (.int x), s3] st h := e_go dX0_off_1 rfl rfl
theorem wX0_off_2 : E_ d mX0_off 2 ls st h = E_ d mX0_off 3 ls (.int (nI 0) :: st) h := e_iconst dX0_off_2 kiconst_0 rfl
theorem wX0_off_3 : E_ d mX0_off 3 [s0, s1, s2, s3] (.int x :: st) h = E_ d mX0_off 4 [s0, s1, xk s2, .val (.int x)] st h := e_go dX0_off_3 rfl rfl
theorem wX0_off_4 : E_ d mX0_off 4 [s0, s1, s2, .val (.int x)] st h = E_ d mX0_off 5 [s0, s1, s2, .val (.int x)] (.int x :: st) h := e_go dX0_off_4 rfl rfl
theorem wX0_off_5 : E_ d mX0_off 5 [s0, .val (.ref a), s2, s3] st h = E_ d mX0_off 6 [s0, .val (.ref a), s2, s3] (.ref a :: st) h := e_go dX0_off_5 rfl rfl
theorem wX0_off_6 (ht : oT h a = 5) : E_ (d + 1) mX0_off 6 ls [.ref a, .int x1] h = (C_ d mX3_many [.ref a] h).bind fun r => E_ (d + 1) mX0_off 9 ls (xpu r.1 [.int x1]) r.2 := e_vir dX0_off_6 rfl rfl rfl rfl rfl rfl (Nat.le_of_ble_eq_true rfl) (Nat.le_of_ble_eq_true rfl) ht
theorem wX0_off_9 : E_ d mX0_off 9 ls (.int y :: .int x :: st) h = if x < y then E_ d mX0_off 12 ls st h else E_ d mX0_off 71 ls st h := e_ige dX0_off_9 rfl rfl
theorem wX0_off_12 : E_ d mX0_off 12 [s0, .val (.ref a), s2, s3] st h = E_ d mX0_off 13 [s0, .val (.ref a), s2, s3] (.ref a :: st) h := e_go dX0_off_12 rfl rfl
theorem wX0_off_13 (ht : oT h a = 5) : E_ d mX0_off 13 ls (.ref a :: st) h = E_ d mX0_off 16 ls (.int (oI h a 7) :: st) h := e_getI dX0_off_13 rfl rfl ht
theorem wX0_off_16 : E_ d mX0_off 16 ls (.int x :: st) h = if 0 < x then E_ d mX0_off 19 ls st h else E_ d mX0_off 71 ls st h := e_zle dX0_off_16 rfl rfl
theorem wX0_off_19 : E_ d mX0_off 19 [s0, .val (.ref a), s2, s3] st h = E_ d mX0_off 20 [s0, .val (.ref a), s2, s3] (.ref a :: st) h := e_go dX0_off_19 rfl rfl
theorem wX0_off_20 : E_ d mX0_off 20 [s0, s1, s2, .val (.int x)] st h = E_ d mX0_off 21 [s0, s1, s2, .val (.int x)] (.int x :: st) h := e_go dX0_off_20 rfl rfl
theorem wX0_off_21 (ht : oT h a = 5) : E_ (d + 1) mX0_off 21 ls [.int x1, .ref a] h = (C_ d mX3_car [.ref a, .int x1] h).bind fun r => E_ (d + 1) mX0_off 24 ls (xpu r.1 []) r.2 := e_vir dX0_off_21 rfl rfl rfl rfl rfl rfl (Nat.le_of_ble_eq_true rfl) (Nat.le_of_ble_eq_true rfl) ht
theorem wX0_off_24 (ht : oT h a = 9) : E_ d mX0_off 24 ls (.ref a :: st) h = E_ d mX0_off 27 ls (.int (oI h a 0) :: st) h := e_getI0 dX0_off_24 rfl rfl ht
theorem wX0_off_27 : E_ d mX0_off 27 [s0, .val (.ref a), s2, s3] st h = E_ d mX0_off 28 [s0, .val (.ref a), s2, s3] (.ref a :: st) h := e_go dX0_off_27 rfl rfl
theorem wX0_off_28 (ht : oT h a = 5) : E_ d mX0_off 28 ls (.ref a :: st) h = E_ d mX0_off 31 ls (.int (oI h a 6) :: st) h := e_getI dX0_off_28 rfl rfl ht
theorem wX0_off_31 : E_ d mX0_off 31 ls (.int y :: .int x :: st) h = if x = y then E_ d mX0_off 34 ls st h else E_ d mX0_off 65 ls st h := e_ine dX0_off_31 rfl rfl
theorem wX0_off_34 : E_ d mX0_off 34 [s0, .val (.ref a), s2, s3] st h = E_ d mX0_off 35 [s0, .val (.ref a), s2, s3] (.ref a :: st) h := e_go dX0_off_34 rfl rfl
theorem wX0_off_35 (ht : oT h a = 5) : E_ d mX0_off 35 ls (.ref a :: st) h = E_ d mX0_off 38 ls (va_rf (oR h a 0) :: st) h := e_getR0 dX0_off_35 rfl rfl ht
theorem wX0_off_38 : E_ d mX0_off 38 [s0, s1, s2, .val (.int x)] st h = E_ d mX0_off 39 [s0, s1, s2, .val (.int x)] (.int x :: st) h := e_go dX0_off_38 rfl rfl
theorem wX0_off_39 (ht : oT h a = 40) (hi : xix x (oN h a) = true) : E_ d mX0_off 39 ls (.int x :: .ref a :: st) h = E_ d mX0_off 40 ls (.int (oI h a x.toNatClampNeg) :: st) h := e_iald dX0_off_39 rfl ht hi
theorem wX0_off_40 : E_ d mX0_off 40 ls (.int x :: st) h = if 0 < x then E_ d mX0_off 43 ls st h else E_ d mX0_off 65 ls st h := e_zle dX0_off_40 rfl rfl
theorem wX0_off_43 : E_ d mX0_off 43 [s0, s1, .val (.int x), s3] st h = E_ d mX0_off 44 [s0, s1, .val (.int x), s3] (.int x :: st) h := e_go dX0_off_43 rfl rfl
theorem wX0_off_44 : E_ d mX0_off 44 ls st h = E_ d mX0_off 45 ls (.int ((-1)) :: st) h := e_iconst dX0_off_44 kiconst_m1 rfl
theorem wX0_off_45 : E_ d mX0_off 45 ls (.int y :: .int x :: st) h = if x = y then E_ d mX0_off 58 ls st h else E_ d mX0_off 48 ls st h := e_ieq dX0_off_45 rfl rfl
theorem wX0_off_48 : E_ d mX0_off 48 [s0, .val (.ref a), s2, s3] st h = E_ d mX0_off 49 [s0, .val (.ref a), s2, s3] (.ref a :: st) h := e_go dX0_off_48 rfl rfl
theorem wX0_off_49 (ht : oT h a = 5) : E_ d mX0_off 49 ls (.ref a :: st) h = E_ d mX0_off 52 ls (va_rf (oR h a 0) :: st) h := e_getR0 dX0_off_49 rfl rfl ht
theorem wX0_off_52 : E_ d mX0_off 52 [s0, s1, s2, .val (.int x)] st h = E_ d mX0_off 53 [s0, s1, s2, .val (.int x)] (.int x :: st) h := e_go dX0_off_52 rfl rfl
theorem wX0_off_53 (ht : oT h a = 40) (hi : xix x (oN h a) = true) : E_ d mX0_off 53 ls (.int x :: .ref a :: st) h = E_ d mX0_off 54 ls (.int (oI h a x.toNatClampNeg) :: st) h := e_iald dX0_off_53 rfl ht hi
theorem wX0_off_54 : E_ d mX0_off 54 [s0, s1, .val (.int x), s3] st h = E_ d mX0_off 55 [s0, s1, .val (.int x), s3] (.int x :: st) h := e_go dX0_off_54 rfl rfl
theorem wX0_off_55 : E_ d mX0_off 55 ls (.int y :: .int x :: st) h = if x < y then E_ d mX0_off 58 ls st h else E_ d mX0_off 65 ls st h := e_ige dX0_off_55 rfl rfl
theorem wX0_off_58 : E_ d mX0_off 58 [s0, .val (.ref a), s2, s3] st h = E_ d mX0_off 59 [s0, .val (.ref a), s2, s3] (.ref a :: st) h := e_go dX0_off_58 rfl rfl
theorem wX0_off_59 (ht : oT h a = 5) : E_ d mX0_off 59 ls (.ref a :: st) h = E_ d mX0_off 62 ls (va_rf (oR h a 0) :: st) h := e_getR0 dX0_off_59 rfl rfl ht
theorem wX0_off_62 : E_ d mX0_off 62 [s0, s1, s2, .val (.int x)] st h = E_ d mX0_off 63 [s0, s1, s2, .val (.int x)] (.int x :: st) h := e_go dX0_off_62 rfl rfl
theorem wX0_off_63 (ht : oT h a = 40) (hi : xix x (oN h a) = true) : E_ d mX0_off 63 ls (.int x :: .ref a :: st) h = E_ d mX0_off 64 ls (.int (oI h a x.toNatClampNeg) :: st) h := e_iald dX0_off_63 rfl ht hi
theorem wX0_off_64 : E_ d mX0_off 64 [s0, s1, s2, s3] (.int x :: st) h = E_ d mX0_off 65 [s0, xk s1, .val (.int x), s3] st h := e_go dX0_off_64 rfl rfl
theorem wX0_off_65 : E_ d mX0_off 65 [s0, s1, s2, .val (.int x)] st h = E_ d mX0_off 68 [s0, s1, xk s2, .val (.int (x + nI 1))] st h := by rw [← kiinc_1]; exact e_go dX0_off_65 rfl rfl
theorem wX0_off_68 : E_ d mX0_off 68 ls st h = E_ d mX0_off 4 ls st h := e_gt dX0_off_68 rfl
theorem wX0_off_71 : E_ d mX0_off 71 [s0, s1, .val (.int x), s3] st h = E_ d mX0_off 72 [s0, s1, .val (.int x), s3] (.int x :: st) h := e_go dX0_off_71 rfl rfl
theorem wX0_off_72 : E_ d mX0_off 72 ls [.int x] h = some (some (.int x), h) := e_rt dX0_off_72 rfl rfl
/-! FootOut.place -/
theorem wX0_place_0 : E_ d mX0_place 0 [.val (.ref a), s1, s2, s3, s4, s5] st h = E_ d mX0_place 1 [.val (.ref a), s1, s2, s3, s4, s5] (.ref a :: st) h := e_go dX0_place_0 rfl rfl
theorem wX0_place_1 (ht : oT h a = 1) : E_ d mX0_place 1 ls (.ref a :: st) h = E_ d mX0_place 4 ls (va_rf (oR h a 0) :: st) h := e_getR dX0_place_1 rfl rfl ht
theorem wX0_place_4 (ht : oT h a = 2) : E_ d mX0_place 4 ls (.ref a :: st) h = E_ d mX0_place 7 ls (va_rf (oR h a 2) :: st) h := e_getR0 dX0_place_4 rfl rfl ht
theorem wX0_place_7 (ht : oT h a = 4) : E_ (d + 1) mX0_place 7 ls [.ref a] h = (C_ d mJ2_size [.ref a] h).bind fun r => E_ (d + 1) mX0_place 10 ls (xpu r.1 []) r.2 := e_vir dX0_place_7 rfl rfl rfl rfl rfl rfl (Nat.le_of_ble_eq_true rfl) (Nat.le_of_ble_eq_true rfl) ht
theorem wX0_place_10 : E_ d mX0_place 10 ls st h = E_ d mX0_place 12 ls (.int (nI 12) :: st) h := e_bipush dX0_place_10 kbipush_12 rfl
theorem wX0_place_12 : E_ d mX0_place 12 ls (.int y :: .int x :: st) h = if x = y then E_ d mX0_place 15 ls st h else E_ d mX0_place 22 ls st h := e_ine dX0_place_12 rfl rfl
theorem wX0_place_15 : E_ d mX0_place 15 [.val (.ref a), s1, s2, s3, s4, s5] st h = E_ d mX0_place 16 [.val (.ref a), s1, s2, s3, s4, s5] (.ref a :: st) h := e_go dX0_place_15 rfl rfl
theorem wX0_place_16 : E_ d mX0_place 16 ls st h = E_ d mX0_place 18 ls (.int ((-5)) :: st) h := e_bipush dX0_place_16 kbipush_m5 rfl
theorem wX0_place_18 (ht : oT h a = 1) : E_ (d + 1) mX0_place 18 ls [.int x1, .ref a] h = (C_ d mX0_no [.ref a, .int x1] h).bind fun r => E_ (d + 1) mX0_place 21 ls (xpu r.1 []) r.2 := e_vir dX0_place_18 rfl rfl rfl rfl rfl rfl (Nat.le_of_ble_eq_true rfl) (Nat.le_of_ble_eq_true rfl) ht
theorem wX0_place_21 : E_ d mX0_place 21 ls [.int x] h = some (some (.int x), h) := e_rt dX0_place_21 rfl rfl
theorem wX0_place_22 : E_ d mX0_place 22 [s0, s1, .val (.int x), s3, s4, s5] st h = E_ d mX0_place 23 [s0, s1, .val (.int x), s3, s4, s5] (.int x :: st) h := e_go dX0_place_22 rfl rfl
theorem wX0_place_23 : E_ d mX0_place 23 ls (.int x :: st) h = E_ d mX0_place 24 ls (.long x.toInt64 :: st) h := e_go dX0_place_23 rfl rfl
theorem wX0_place_24 : E_ d mX0_place 24 ls st h = E_ d mX0_place 25 ls (.long 0 :: st) h := e_go dX0_place_24 rfl rfl
theorem wX0_place_25 : E_ d mX0_place 25 ls st h = E_ d mX0_place 28 ls (.long (300) :: st) h := e_go dX0_place_25 rfl rfl
theorem wX0_place_28 : E_ (d + 1) mX0_place 28 ls [.long u3, .long u2, .long u1] h = (C_ d mX0_in [.long u1, .long u2, .long u3] h).bind fun r => E_ (d + 1) mX0_place 31 ls (xpu r.1 []) r.2 := e_call dX0_place_28 rfl rfl
theorem wX0_place_31 : E_ d mX0_place 31 ls (.int x :: st) h = if x = 0 then E_ d mX0_place 70 ls st h else E_ d mX0_place 34 ls st h := e_zeq dX0_place_31 rfl rfl
theorem wX0_place_34 : E_ d mX0_place 34 [s0, s1, s2, .val (.int x), s4, s5] st h = E_ d mX0_place 35 [s0, s1, s2, .val (.int x), s4, s5] (.int x :: st) h := e_go dX0_place_34 rfl rfl
theorem wX0_place_35 : E_ d mX0_place 35 ls (.int x :: st) h = E_ d mX0_place 36 ls (.long x.toInt64 :: st) h := e_go dX0_place_35 rfl rfl
theorem wX0_place_36 : E_ d mX0_place 36 ls st h = E_ d mX0_place 37 ls (.long 0 :: st) h := e_go dX0_place_36 rfl rfl
theorem wX0_place_37 : E_ d mX0_place 37 ls st h = E_ d mX0_place 40 ls (.long (300) :: st) h := e_go dX0_place_37 rfl rfl
theorem wX0_place_40 : E_ (d + 1) mX0_place 40 ls [.long u3, .long u2, .long u1] h = (C_ d mX0_in [.long u1, .long u2, .long u3] h).bind fun r => E_ (d + 1) mX0_place 43 ls (xpu r.1 []) r.2 := e_call dX0_place_40 rfl rfl
theorem wX0_place_43 : E_ d mX0_place 43 ls (.int x :: st) h = if x = 0 then E_ d mX0_place 70 ls st h else E_ d mX0_place 46 ls st h := e_zeq dX0_place_43 rfl rfl
theorem wX0_place_46 : E_ d mX0_place 46 [s0, s1, s2, s3, .val (.int x), s5] st h = E_ d mX0_place 48 [s0, s1, s2, s3, .val (.int x), s5] (.int x :: st) h := e_go dX0_place_46 rfl rfl
theorem wX0_place_48 : E_ d mX0_place 48 ls (.int x :: st) h = E_ d mX0_place 49 ls (.long x.toInt64 :: st) h := e_go dX0_place_48 rfl rfl
theorem wX0_place_49 : E_ d mX0_place 49 ls st h = E_ d mX0_place 50 ls (.long 0 :: st) h := e_go dX0_place_49 rfl rfl
theorem wX0_place_50 : E_ d mX0_place 50 [s0, s1, .val (.int x), s3, s4, s5] st h = E_ d mX0_place 51 [s0, s1, .val (.int x), s3, s4, s5] (.int x :: st) h := e_go dX0_place_50 rfl rfl
theorem wX0_place_51 : E_ d mX0_place 51 ls (.int x :: st) h = E_ d mX0_place 52 ls (.long x.toInt64 :: st) h := e_go dX0_place_51 rfl rfl
theorem wX0_place_52 : E_ (d + 1) mX0_place 52 ls [.long u3, .long u2, .long u1] h = (C_ d mX0_in [.long u1, .long u2, .long u3] h).bind fun r => E_ (d + 1) mX0_place 55 ls (xpu r.1 []) r.2 := e_call dX0_place_52 rfl rfl
theorem wX0_place_55 : E_ d mX0_place 55 ls (.int x :: st) h = if x = 0 then E_ d mX0_place 70 ls st h else E_ d mX0_place 58 ls st h := e_zeq dX0_place_55 rfl rfl
theorem wX0_place_58 : E_ d mX0_place 58 [s0, s1, s2, s3, s4, .val (.int x)] st h = E_ d mX0_place 60 [s0, s1, s2, s3, s4, .val (.int x)] (.int x :: st) h := e_go dX0_place_58 rfl rfl
theorem wX0_place_60 : E_ d mX0_place 60 ls (.int x :: st) h = E_ d mX0_place 61 ls (.long x.toInt64 :: st) h := e_go dX0_place_60 rfl rfl
theorem wX0_place_61 : E_ d mX0_place 61 ls st h = E_ d mX0_place 62 ls (.long 0 :: st) h := e_go dX0_place_61 rfl rfl
theorem wX0_place_62 : E_ d mX0_place 62 [s0, s1, s2, .val (.int x), s4, s5] st h = E_ d mX0_place 63 [s0, s1, s2, .val (.int x), s4, s5] (.int x :: st) h := e_go dX0_place_62 rfl rfl
theorem wX0_place_63 : E_ d mX0_place 63 ls (.int x :: st) h = E_ d mX0_place 64 ls (.long x.toInt64 :: st) h := e_go dX0_place_63 rfl rfl
theorem wX0_place_64 : E_ (d + 1) mX0_place 64 ls [.long u3, .long u2, .long u1] h = (C_ d mX0_in [.long u1, .long u2, .long u3] h).bind fun r => E_ (d + 1) mX0_place 67 ls (xpu r.1 []) r.2 := e_call dX0_place_64 rfl rfl
theorem wX0_place_67 : E_ d mX0_place 67 ls (.int x :: st) h = if x = 0 then E_ d mX0_place 70 ls st h else E_ d mX0_place 77 ls st h := e_zne dX0_place_67 rfl rfl
theorem wX0_place_70 : E_ d mX0_place 70 [.val (.ref a), s1, s2, s3, s4, s5] st h = E_ d mX0_place 71 [.val (.ref a), s1, s2, s3, s4, s5] (.ref a :: st) h := e_go dX0_place_70 rfl rfl
theorem wX0_place_71 : E_ d mX0_place 71 ls st h = E_ d mX0_place 73 ls (.int ((-3)) :: st) h := e_bipush dX0_place_71 kbipush_m3 rfl
theorem wX0_place_73 (ht : oT h a = 1) : E_ (d + 1) mX0_place 73 ls [.int x1, .ref a] h = (C_ d mX0_no [.ref a, .int x1] h).bind fun r => E_ (d + 1) mX0_place 76 ls (xpu r.1 []) r.2 := e_vir dX0_place_73 rfl rfl rfl rfl rfl rfl (Nat.le_of_ble_eq_true rfl) (Nat.le_of_ble_eq_true rfl) ht
theorem wX0_place_76 : E_ d mX0_place 76 ls [.int x] h = some (some (.int x), h) := e_rt dX0_place_76 rfl rfl
theorem wX0_place_77 : E_ d mX0_place 77 [.val (.ref a), s1, s2, s3, s4, s5] st h = E_ d mX0_place 78 [.val (.ref a), s1, s2, s3, s4, s5] (.ref a :: st) h := e_go dX0_place_77 rfl rfl
theorem wX0_place_78 (ht : oT h a = 1) : E_ d mX0_place 78 ls (.ref a :: st) h = E_ d mX0_place 81 ls (va_rf (oR h a 0) :: st) h := e_getR dX0_place_78 rfl rfl ht
theorem wX0_place_81 (ht : oT h a = 2) : E_ d mX0_place 81 ls (.ref a :: st) h = E_ d mX0_place 84 ls (va_rf (oR h a 2) :: st) h := e_getR0 dX0_place_81 rfl rfl ht
theorem wX0_place_84 : E_ d mX0_place 84 ls st h = E_ d mX0_place 87 ls (.ref (oX h) :: st) (pO h 19 4) := e_go dX0_place_84 rfl rfl
theorem wX0_place_87 : E_ d mX0_place 87 ls (.ref a :: st) h = E_ d mX0_place 88 ls (.ref a :: .ref a :: st) h := e_go dX0_place_87 rfl rfl
theorem wX0_place_88 : E_ d mX0_place 88 [s0, .val (.int x), s2, s3, s4, s5] st h = E_ d mX0_place 89 [s0, .val (.int x), s2, s3, s4, s5] (.int x :: st) h := e_go dX0_place_88 rfl rfl
theorem wX0_place_89 : E_ d mX0_place 89 [s0, s1, .val (.int x), s3, s4, s5] st h = E_ d mX0_place 90 [s0, s1, .val (.int x), s3, s4, s5] (.int x :: st) h := e_go dX0_place_89 rfl rfl
theorem wX0_place_90 : E_ d mX0_place 90 [s0, s1, s2, .val (.int x), s4, s5] st h = E_ d mX0_place 91 [s0, s1, s2, .val (.int x), s4, s5] (.int x :: st) h := e_go dX0_place_90 rfl rfl
theorem wX0_place_91 : E_ d mX0_place 91 [s0, s1, s2, s3, .val (.int x), s5] st h = E_ d mX0_place 93 [s0, s1, s2, s3, .val (.int x), s5] (.int x :: st) h := e_go dX0_place_91 rfl rfl
theorem wX0_place_93 : E_ d mX0_place 93 [s0, s1, s2, s3, s4, .val (.int x)] st h = E_ d mX0_place 95 [s0, s1, s2, s3, s4, .val (.int x)] (.int x :: st) h := e_go dX0_place_93 rfl rfl
theorem wX0_place_95 : E_ (d + 1) mX0_place 95 ls [.int x5, .int x4, .int x3, .int x2, .int x1, .ref a, .ref r1, .ref r2] h = (C_ d mX19_init [.ref a, .int x1, .int x2, .int x3, .int x4, .int x5] h).bind fun r => E_ (d + 1) mX0_place 98 ls (xpu r.1 [.ref r1, .ref r2]) r.2 := e_call dX0_place_95 rfl rfl
theorem wX0_place_98 (ht : oT h a = 4) : E_ (d + 1) mX0_place 98 ls [.ref r1, .ref a] h = (C_ d mJ2_add [.ref a, .ref r1] h).bind fun r => E_ (d + 1) mX0_place 101 ls (xpu r.1 []) r.2 := e_vir dX0_place_98 rfl rfl rfl rfl rfl rfl (Nat.le_of_ble_eq_true rfl) (Nat.le_of_ble_eq_true rfl) ht
theorem wX0_place_101 : E_ d mX0_place 101 ls (.int x :: st) h = E_ d mX0_place 102 ls st h := e_go dX0_place_101 rfl rfl
theorem wX0_place_102 : E_ d mX0_place 102 [.val (.ref a), s1, s2, s3, s4, s5] st h = E_ d mX0_place 103 [.val (.ref a), s1, s2, s3, s4, s5] (.ref a :: st) h := e_go dX0_place_102 rfl rfl
theorem wX0_place_103 (ht : oT h a = 1) : E_ d mX0_place 103 ls (.ref a :: st) h = E_ d mX0_place 106 ls (va_rf (oR h a 0) :: st) h := e_getR dX0_place_103 rfl rfl ht
theorem wX0_place_106 (ht : oT h a = 2) : E_ d mX0_place 106 ls (.ref a :: st) h = E_ d mX0_place 109 ls (va_rf (oR h a 2) :: st) h := e_getR0 dX0_place_106 rfl rfl ht
theorem wX0_place_109 (ht : oT h a = 4) : E_ (d + 1) mX0_place 109 ls [.ref a] h = (C_ d mJ2_size [.ref a] h).bind fun r => E_ (d + 1) mX0_place 112 ls (xpu r.1 []) r.2 := e_vir dX0_place_109 rfl rfl rfl rfl rfl rfl (Nat.le_of_ble_eq_true rfl) (Nat.le_of_ble_eq_true rfl) ht
theorem wX0_place_112 : E_ d mX0_place 112 ls st h = E_ d mX0_place 113 ls (.int (nI 1) :: st) h := e_iconst dX0_place_112 kiconst_1 rfl
theorem wX0_place_113 : E_ d mX0_place 113 ls (.int y :: .int x :: st) h = E_ d mX0_place 114 ls (.int (x - y) :: st) h := e_go dX0_place_113 rfl rfl
theorem wX0_place_114 : E_ d mX0_place 114 ls [.int x] h = some (some (.int x), h) := e_rt dX0_place_114 rfl rfl
/-! FootOut.behind -/
theorem wX0_behind_0 : E_ d mX0_behind 0 [.val (.ref a), s1, s2, s3] st h = E_ d mX0_behind 1 [.val (.ref a), s1, s2, s3] (.ref a :: st) h := e_go dX0_behind_0 rfl rfl
theorem wX0_behind_1 : E_ d mX0_behind 1 [s0, .val (.int x), s2, s3] st h = E_ d mX0_behind 2 [s0, .val (.int x), s2, s3] (.int x :: st) h := e_go dX0_behind_1 rfl rfl
theorem wX0_behind_2 (ht : oT h a = 1) : E_ (d + 1) mX0_behind 2 ls [.int x1, .ref a] h = (C_ d mX0_isPlace [.ref a, .int x1] h).bind fun r => E_ (d + 1) mX0_behind 5 ls (xpu r.1 []) r.2 := e_vir dX0_behind_2 rfl rfl rfl rfl rfl rfl (Nat.le_of_ble_eq_true rfl) (Nat.le_of_ble_eq_true rfl) ht
theorem wX0_behind_5 : E_ d mX0_behind 5 ls (.int x :: st) h = if x = 0 then E_ d mX0_behind 8 ls st h else E_ d mX0_behind 15 ls st h := e_zne dX0_behind_5 rfl rfl
theorem wX0_behind_8 : E_ d mX0_behind 8 [.val (.ref a), s1, s2, s3] st h = E_ d mX0_behind 9 [.val (.ref a), s1, s2, s3] (.ref a :: st) h := e_go dX0_behind_8 rfl rfl
theorem wX0_behind_9 : E_ d mX0_behind 9 ls st h = E_ d mX0_behind 11 ls (.int ((-2)) :: st) h := e_bipush dX0_behind_9 kbipush_m2 rfl
theorem wX0_behind_11 (ht : oT h a = 1) : E_ (d + 1) mX0_behind 11 ls [.int x1, .ref a] h = (C_ d mX0_no [.ref a, .int x1] h).bind fun r => E_ (d + 1) mX0_behind 14 ls (xpu r.1 []) r.2 := e_vir dX0_behind_11 rfl rfl rfl rfl rfl rfl (Nat.le_of_ble_eq_true rfl) (Nat.le_of_ble_eq_true rfl) ht
theorem wX0_behind_14 : E_ d mX0_behind 14 ls [.int x] h = some (some (.int x), h) := e_rt dX0_behind_14 rfl rfl
theorem wX0_behind_15 : E_ d mX0_behind 15 [s0, s1, .val (.int x), s3] st h = E_ d mX0_behind 16 [s0, s1, .val (.int x), s3] (.int x :: st) h := e_go dX0_behind_15 rfl rfl
theorem wX0_behind_16 : E_ d mX0_behind 16 ls (.int x :: st) h = E_ d mX0_behind 17 ls (.long x.toInt64 :: st) h := e_go dX0_behind_16 rfl rfl
theorem wX0_behind_17 : E_ d mX0_behind 17 ls st h = E_ d mX0_behind 18 ls (.long 0 :: st) h := e_go dX0_behind_17 rfl rfl
theorem wX0_behind_18 : E_ d mX0_behind 18 ls st h = E_ d mX0_behind 21 ls (.long (600) :: st) h := e_go dX0_behind_18 rfl rfl
theorem wX0_behind_21 : E_ (d + 1) mX0_behind 21 ls [.long u3, .long u2, .long u1] h = (C_ d mX0_in [.long u1, .long u2, .long u3] h).bind fun r => E_ (d + 1) mX0_behind 24 ls (xpu r.1 []) r.2 := e_call dX0_behind_21 rfl rfl
theorem wX0_behind_24 : E_ d mX0_behind 24 ls (.int x :: st) h = if x = 0 then E_ d mX0_behind 27 ls st h else E_ d mX0_behind 34 ls st h := e_zne dX0_behind_24 rfl rfl
theorem wX0_behind_27 : E_ d mX0_behind 27 [.val (.ref a), s1, s2, s3] st h = E_ d mX0_behind 28 [.val (.ref a), s1, s2, s3] (.ref a :: st) h := e_go dX0_behind_27 rfl rfl
theorem wX0_behind_28 : E_ d mX0_behind 28 ls st h = E_ d mX0_behind 30 ls (.int ((-3)) :: st) h := e_bipush dX0_behind_28 kbipush_m3 rfl
theorem wX0_behind_30 (ht : oT h a = 1) : E_ (d + 1) mX0_behind 30 ls [.int x1, .ref a] h = (C_ d mX0_no [.ref a, .int x1] h).bind fun r => E_ (d + 1) mX0_behind 33 ls (xpu r.1 []) r.2 := e_vir dX0_behind_30 rfl rfl rfl rfl rfl rfl (Nat.le_of_ble_eq_true rfl) (Nat.le_of_ble_eq_true rfl) ht
theorem wX0_behind_33 : E_ d mX0_behind 33 ls [.int x] h = some (some (.int x), h) := e_rt dX0_behind_33 rfl rfl
theorem wX0_behind_34 : E_ d mX0_behind 34 [.val (.ref a), s1, s2, s3] st h = E_ d mX0_behind 35 [.val (.ref a), s1, s2, s3] (.ref a :: st) h := e_go dX0_behind_34 rfl rfl
theorem wX0_behind_35 (ht : oT h a = 1) : E_ d mX0_behind 35 ls (.ref a :: st) h = E_ d mX0_behind 38 ls (va_rf (oR h a 0) :: st) h := e_getR dX0_behind_35 rfl rfl ht
theorem wX0_behind_38 (ht : oT h a = 2) : E_ d mX0_behind 38 ls (.ref a :: st) h = E_ d mX0_behind 41 ls (va_rf (oR h a 2) :: st) h := e_getR0 dX0_behind_38 rfl rfl ht
theorem wX0_behind_41 : E_ d mX0_behind 41 [s0, .val (.int x), s2, s3] st h = E_ d mX0_behind 42 [s0, .val (.int x), s2, s3] (.int x :: st) h := e_go dX0_behind_41 rfl rfl
theorem wX0_behind_42 (ht : oT h a = 4) : E_ (d + 1) mX0_behind 42 ls [.int x1, .ref a] h = (C_ d mJ2_get [.ref a, .int x1] h).bind fun r => E_ (d + 1) mX0_behind 45 ls (xpu r.1 []) r.2 := e_vir dX0_behind_42 rfl rfl rfl rfl rfl rfl (Nat.le_of_ble_eq_true rfl) (Nat.le_of_ble_eq_true rfl) ht
theorem wX0_behind_45 (ht : oT h a = 19) : E_ d mX0_behind 45 ls (.ref a :: st) h = E_ d mX0_behind 48 ls (.ref a :: st) h := e_cast dX0_behind_45 rfl rfl ht
theorem wX0_behind_45n : E_ d mX0_behind 45 ls (.null :: st) h = E_ d mX0_behind 48 ls (.null :: st) h := e_go dX0_behind_45 rfl rfl
theorem wX0_behind_48 (ht : oT h a = 19) : E_ d mX0_behind 48 ls (.ref a :: st) h = E_ d mX0_behind 51 ls (.int (oI h a 3) :: st) h := e_getI dX0_behind_48 rfl rfl ht
theorem wX0_behind_51 : E_ d mX0_behind 51 [s0, s1, s2, s3] (.int x :: st) h = E_ d mX0_behind 52 [s0, s1, xk s2, .val (.int x)] st h := e_go dX0_behind_51 rfl rfl
theorem wX0_behind_52 : E_ d mX0_behind 52 [.val (.ref a), s1, s2, s3] st h = E_ d mX0_behind 53 [.val (.ref a), s1, s2, s3] (.ref a :: st) h := e_go dX0_behind_52 rfl rfl
theorem wX0_behind_53 (ht : oT h a = 1) : E_ d mX0_behind 53 ls (.ref a :: st) h = E_ d mX0_behind 56 ls (va_rf (oR h a 0) :: st) h := e_getR dX0_behind_53 rfl rfl ht
theorem wX0_behind_56 (ht : oT h a = 2) : E_ d mX0_behind 56 ls (.ref a :: st) h = E_ d mX0_behind 59 ls (va_rf (oR h a 2) :: st) h := e_getR0 dX0_behind_56 rfl rfl ht
theorem wX0_behind_59 : E_ d mX0_behind 59 [s0, .val (.int x), s2, s3] st h = E_ d mX0_behind 60 [s0, .val (.int x), s2, s3] (.int x :: st) h := e_go dX0_behind_59 rfl rfl
theorem wX0_behind_60 (ht : oT h a = 4) : E_ (d + 1) mX0_behind 60 ls [.int x1, .ref a] h = (C_ d mJ2_get [.ref a, .int x1] h).bind fun r => E_ (d + 1) mX0_behind 63 ls (xpu r.1 []) r.2 := e_vir dX0_behind_60 rfl rfl rfl rfl rfl rfl (Nat.le_of_ble_eq_true rfl) (Nat.le_of_ble_eq_true rfl) ht
theorem wX0_behind_63 (ht : oT h a = 19) : E_ d mX0_behind 63 ls (.ref a :: st) h = E_ d mX0_behind 66 ls (.ref a :: st) h := e_cast dX0_behind_63 rfl rfl ht
theorem wX0_behind_63n : E_ d mX0_behind 63 ls (.null :: st) h = E_ d mX0_behind 66 ls (.null :: st) h := e_go dX0_behind_63 rfl rfl
theorem wX0_behind_66 : E_ d mX0_behind 66 [s0, s1, .val (.int x), s3] st h = E_ d mX0_behind 67 [s0, s1, .val (.int x), s3] (.int x :: st) h := e_go dX0_behind_66 rfl rfl
theorem wX0_behind_67 (ht : oT h a = 19) : E_ d mX0_behind 67 ls (.int x :: .ref a :: st) h = E_ d mX0_behind 70 ls st (pI h a (va_up (oI h a) 3 x)) := e_putI dX0_behind_67 rfl rfl ht
theorem wX0_behind_70 : E_ d mX0_behind 70 [s0, s1, s2, .val (.int x)] st h = E_ d mX0_behind 71 [s0, s1, s2, .val (.int x)] (.int x :: st) h := e_go dX0_behind_70 rfl rfl
theorem wX0_behind_71 : E_ d mX0_behind 71 ls [.int x] h = some (some (.int x), h) := e_rt dX0_behind_71 rfl rfl
/-! FootOut.isPlace -/
theorem wX0_isPlace_0 : E_ d mX0_isPlace 0 [s0, .val (.int x)] st h = E_ d mX0_isPlace 1 [s0, .val (.int x)] (.int x :: st) h := e_go dX0_isPlace_0 rfl rfl
theorem wX0_isPlace_1 : E_ d mX0_isPlace 1 ls (.int x :: st) h = E_ d mX0_isPlace 2 ls (.long x.toInt64 :: st) h := e_go dX0_isPlace_1 rfl rfl
theorem wX0_isPlace_2 : E_ d mX0_isPlace 2 ls st h = E_ d mX0_isPlace 3 ls (.long 0 :: st) h := e_go dX0_isPlace_2 rfl rfl
theorem wX0_isPlace_3 : E_ d mX0_isPlace 3 [.val (.ref a), s1] st h = E_ d mX0_isPlace 4 [.val (.ref a), s1] (.ref a :: st) h := e_go dX0_isPlace_3 rfl rfl
theorem wX0_isPlace_4 (ht : oT h a = 1) : E_ d mX0_isPlace 4 ls (.ref a :: st) h = E_ d mX0_isPlace 7 ls (va_rf (oR h a 0) :: st) h := e_getR dX0_isPlace_4 rfl rfl ht
theorem wX0_isPlace_7 (ht : oT h a = 2) : E_ d mX0_isPlace 7 ls (.ref a :: st) h = E_ d mX0_isPlace 10 ls (va_rf (oR h a 2) :: st) h := e_getR0 dX0_isPlace_7 rfl rfl ht
theorem wX0_isPlace_10 (ht : oT h a = 4) : E_ (d + 1) mX0_isPlace 10 ls [.ref a, .long u1, .long u2] h = (C_ d mJ2_size [.ref a] h).bind fun r => E_ (d + 1) mX0_isPlace 13 ls (xpu r.1 [.long u1, .long u2]) r.2 := e_vir dX0_isPlace_10 rfl rfl rfl rfl rfl rfl (Nat.le_of_ble_eq_true rfl) (Nat.le_of_ble_eq_true rfl) ht
theorem wX0_isPlace_13 : E_ d mX0_isPlace 13 ls st h = E_ d mX0_isPlace 14 ls (.int (nI 1) :: st) h := e_iconst dX0_isPlace_13 kiconst_1 rfl
theorem wX0_isPlace_14 : E_ d mX0_isPlace 14 ls (.int y :: .int x :: st) h = E_ d mX0_isPlace 15 ls (.int (x - y) :: st) h := e_go dX0_isPlace_14 rfl rfl
theorem wX0_isPlace_15 : E_ d mX0_isPlace 15 ls (.int x :: st) h = E_ d mX0_isPlace 16 ls (.long x.toInt64 :: st) h := e_go dX0_isPlace_15 rfl rfl
theorem wX0_isPlace_16 : E_ (d + 1) mX0_isPlace 16 ls [.long u3, .long u2, .long u1] h = (C_ d mX0_in [.long u1, .long u2, .long u3] h).bind fun r => E_ (d + 1) mX0_isPlace 19 ls (xpu r.1 []) r.2 := e_call dX0_isPlace_16 rfl rfl
theorem wX0_isPlace_19 (hx : x = 0 ∨ x = 1) : E_ d mX0_isPlace 19 ls [.int x] h = some (some (.int x), h) := e_rtZ dX0_isPlace_19 rfl hx
/-! FootOut.at -/
theorem wX0_at_0 : E_ d mX0_at 0 [.val (.ref a), s1, s2, s3] st h = E_ d mX0_at 1 [.val (.ref a), s1, s2, s3] (.ref a :: st) h := e_go dX0_at_0 rfl rfl
theorem wX0_at_1 : E_ d mX0_at 1 [s0, .val (.int x), s2, s3] st h = E_ d mX0_at 2 [s0, .val (.int x), s2, s3] (.int x :: st) h := e_go dX0_at_1 rfl rfl
theorem wX0_at_2 (ht : oT h a = 1) : E_ (d + 1) mX0_at 2 ls [.int x1, .ref a] h = (C_ d mX0_isPlace [.ref a, .int x1] h).bind fun r => E_ (d + 1) mX0_at 5 ls (xpu r.1 []) r.2 := e_vir dX0_at_2 rfl rfl rfl rfl rfl rfl (Nat.le_of_ble_eq_true rfl) (Nat.le_of_ble_eq_true rfl) ht
theorem wX0_at_5 : E_ d mX0_at 5 ls (.int x :: st) h = if x = 0 then E_ d mX0_at 8 ls st h else E_ d mX0_at 15 ls st h := e_zne dX0_at_5 rfl rfl
theorem wX0_at_8 : E_ d mX0_at 8 [.val (.ref a), s1, s2, s3] st h = E_ d mX0_at 9 [.val (.ref a), s1, s2, s3] (.ref a :: st) h := e_go dX0_at_8 rfl rfl
theorem wX0_at_9 : E_ d mX0_at 9 ls st h = E_ d mX0_at 11 ls (.int ((-2)) :: st) h := e_bipush dX0_at_9 kbipush_m2 rfl
theorem wX0_at_11 (ht : oT h a = 1) : E_ (d + 1) mX0_at 11 ls [.int x1, .ref a] h = (C_ d mX0_no [.ref a, .int x1] h).bind fun r => E_ (d + 1) mX0_at 14 ls (xpu r.1 []) r.2 := e_vir dX0_at_11 rfl rfl rfl rfl rfl rfl (Nat.le_of_ble_eq_true rfl) (Nat.le_of_ble_eq_true rfl) ht
theorem wX0_at_14 : E_ d mX0_at 14 ls [.int x] h = some (some (.int x), h) := e_rt dX0_at_14 rfl rfl
theorem wX0_at_15 : E_ d mX0_at 15 [.val (.ref a), s1, s2, s3] st h = E_ d mX0_at 16 [.val (.ref a), s1, s2, s3] (.ref a :: st) h := e_go dX0_at_15 rfl rfl
theorem wX0_at_16 (ht : oT h a = 1) : E_ d mX0_at 16 ls (.ref a :: st) h = E_ d mX0_at 19 ls (va_rf (oR h a 0) :: st) h := e_getR dX0_at_16 rfl rfl ht
theorem wX0_at_19 (ht : oT h a = 2) : E_ d mX0_at 19 ls (.ref a :: st) h = E_ d mX0_at 22 ls (va_rf (oR h a 2) :: st) h := e_getR0 dX0_at_19 rfl rfl ht
theorem wX0_at_22 : E_ d mX0_at 22 [s0, .val (.int x), s2, s3] st h = E_ d mX0_at 23 [s0, .val (.int x), s2, s3] (.int x :: st) h := e_go dX0_at_22 rfl rfl
theorem wX0_at_23 (ht : oT h a = 4) : E_ (d + 1) mX0_at 23 ls [.int x1, .ref a] h = (C_ d mJ2_get [.ref a, .int x1] h).bind fun r => E_ (d + 1) mX0_at 26 ls (xpu r.1 []) r.2 := e_vir dX0_at_23 rfl rfl rfl rfl rfl rfl (Nat.le_of_ble_eq_true rfl) (Nat.le_of_ble_eq_true rfl) ht
theorem wX0_at_26 (ht : oT h a = 19) : E_ d mX0_at 26 ls (.ref a :: st) h = E_ d mX0_at 29 ls (.ref a :: st) h := e_cast dX0_at_26 rfl rfl ht
theorem wX0_at_26n : E_ d mX0_at 26 ls (.null :: st) h = E_ d mX0_at 29 ls (.null :: st) h := e_go dX0_at_26 rfl rfl
theorem wX0_at_29 : E_ d mX0_at 29 [s0, s1, s2, s3] (.ref a :: st) h = E_ d mX0_at 30 [s0, s1, xk s2, .val (.ref a)] st h := e_go dX0_at_29 rfl rfl
theorem wX0_at_30 : E_ d mX0_at 30 [s0, s1, .val (.int x), s3] st h = E_ d mX0_at 31 [s0, s1, .val (.int x), s3] (.int x :: st) h := e_go dX0_at_30 rfl rfl
theorem wX0_at_31d (hx : x.toInt < 0 ∨ 5 < x.toInt) : E_ d mX0_at 31 ls (.int x :: st) h = E_ d mX0_at 104 ls st h := e_swO dX0_at_31 rfl hx
theorem wX0_at_31c0 : E_ d mX0_at 31 ls (.int (nI 0) :: st) h = E_ d mX0_at 68 ls st h := e_swI (n := 0) dX0_at_31 (by decide) (by decide) rfl rfl
theorem wX0_at_31c1 : E_ d mX0_at 31 ls (.int (nI 1) :: st) h = E_ d mX0_at 81 ls st h := e_swI (n := 1) dX0_at_31 (by decide) (by decide) rfl rfl
theorem wX0_at_31c2 : E_ d mX0_at 31 ls (.int (nI 2) :: st) h = E_ d mX0_at 81 ls st h := e_swI (n := 2) dX0_at_31 (by decide) (by decide) rfl rfl
theorem wX0_at_31c3 : E_ d mX0_at 31 ls (.int (nI 3) :: st) h = E_ d mX0_at 90 ls st h := e_swI (n := 3) dX0_at_31 (by decide) (by decide) rfl rfl
theorem wX0_at_31c4 : E_ d mX0_at 31 ls (.int (nI 4) :: st) h = E_ d mX0_at 90 ls st h := e_swI (n := 4) dX0_at_31 (by decide) (by decide) rfl rfl
theorem wX0_at_31c5 : E_ d mX0_at 31 ls (.int (nI 5) :: st) h = E_ d mX0_at 99 ls st h := e_swI (n := 5) dX0_at_31 (by decide) (by decide) rfl rfl
theorem wX0_at_68 : E_ d mX0_at 68 [s0, s1, s2, .val (.ref a)] st h = E_ d mX0_at 69 [s0, s1, s2, .val (.ref a)] (.ref a :: st) h := e_go dX0_at_68 rfl rfl
theorem wX0_at_69 (ht : oT h a = 19) : E_ d mX0_at 69 ls (.ref a :: st) h = E_ d mX0_at 72 ls (.int (oI h a 0) :: st) h := e_getZ0 dX0_at_69 rfl rfl ht
theorem wX0_at_72 : E_ d mX0_at 72 ls (.int x :: st) h = if x = 0 then E_ d mX0_at 79 ls st h else E_ d mX0_at 75 ls st h := e_zeq dX0_at_72 rfl rfl
theorem wX0_at_75 : E_ d mX0_at 75 ls st h = E_ d mX0_at 76 ls (.int (nI 1) :: st) h := e_iconst dX0_at_75 kiconst_1 rfl
theorem wX0_at_76 : E_ d mX0_at 76 ls st h = E_ d mX0_at 80 ls st h := e_gt dX0_at_76 rfl
theorem wX0_at_79 : E_ d mX0_at 79 ls st h = E_ d mX0_at 80 ls (.int (nI 0) :: st) h := e_iconst dX0_at_79 kiconst_0 rfl
theorem wX0_at_80 : E_ d mX0_at 80 ls [.int x] h = some (some (.int x), h) := e_rt dX0_at_80 rfl rfl
theorem wX0_at_81 : E_ d mX0_at 81 [s0, s1, s2, .val (.ref a)] st h = E_ d mX0_at 82 [s0, s1, s2, .val (.ref a)] (.ref a :: st) h := e_go dX0_at_81 rfl rfl
theorem wX0_at_82 (ht : oT h a = 19) : E_ d mX0_at 82 ls (.ref a :: st) h = E_ d mX0_at 85 ls (va_rf (oR h a 1) :: st) h := e_getR0 dX0_at_82 rfl rfl ht
theorem wX0_at_85 : E_ d mX0_at 85 [s0, s1, .val (.int x), s3] st h = E_ d mX0_at 86 [s0, s1, .val (.int x), s3] (.int x :: st) h := e_go dX0_at_85 rfl rfl
theorem wX0_at_86 : E_ d mX0_at 86 ls st h = E_ d mX0_at 87 ls (.int (nI 1) :: st) h := e_iconst dX0_at_86 kiconst_1 rfl
theorem wX0_at_87 : E_ d mX0_at 87 ls (.int y :: .int x :: st) h = E_ d mX0_at 88 ls (.int (x - y) :: st) h := e_go dX0_at_87 rfl rfl
theorem wX0_at_88 (ht : oT h a = 40) (hi : xix x (oN h a) = true) : E_ d mX0_at 88 ls (.int x :: .ref a :: st) h = E_ d mX0_at 89 ls (.int (oI h a x.toNatClampNeg) :: st) h := e_iald dX0_at_88 rfl ht hi
theorem wX0_at_89 : E_ d mX0_at 89 ls [.int x] h = some (some (.int x), h) := e_rt dX0_at_89 rfl rfl
theorem wX0_at_90 : E_ d mX0_at 90 [s0, s1, s2, .val (.ref a)] st h = E_ d mX0_at 91 [s0, s1, s2, .val (.ref a)] (.ref a :: st) h := e_go dX0_at_90 rfl rfl
theorem wX0_at_91 (ht : oT h a = 19) : E_ d mX0_at 91 ls (.ref a :: st) h = E_ d mX0_at 94 ls (va_rf (oR h a 2) :: st) h := e_getR0 dX0_at_91 rfl rfl ht
theorem wX0_at_94 : E_ d mX0_at 94 [s0, s1, .val (.int x), s3] st h = E_ d mX0_at 95 [s0, s1, .val (.int x), s3] (.int x :: st) h := e_go dX0_at_94 rfl rfl
theorem wX0_at_95 : E_ d mX0_at 95 ls st h = E_ d mX0_at 96 ls (.int (nI 3) :: st) h := e_iconst dX0_at_95 kiconst_3 rfl
theorem wX0_at_96 : E_ d mX0_at 96 ls (.int y :: .int x :: st) h = E_ d mX0_at 97 ls (.int (x - y) :: st) h := e_go dX0_at_96 rfl rfl
theorem wX0_at_97 (ht : oT h a = 40) (hi : xix x (oN h a) = true) : E_ d mX0_at 97 ls (.int x :: .ref a :: st) h = E_ d mX0_at 98 ls (.int (oI h a x.toNatClampNeg) :: st) h := e_iald dX0_at_97 rfl ht hi
theorem wX0_at_98 : E_ d mX0_at 98 ls [.int x] h = some (some (.int x), h) := e_rt dX0_at_98 rfl rfl
theorem wX0_at_99 : E_ d mX0_at 99 [s0, s1, s2, .val (.ref a)] st h = E_ d mX0_at 100 [s0, s1, s2, .val (.ref a)] (.ref a :: st) h := e_go dX0_at_99 rfl rfl
theorem wX0_at_100 (ht : oT h a = 19) : E_ d mX0_at 100 ls (.ref a :: st) h = E_ d mX0_at 103 ls (.int (oI h a 3) :: st) h := e_getI dX0_at_100 rfl rfl ht
theorem wX0_at_103 : E_ d mX0_at 103 ls [.int x] h = some (some (.int x), h) := e_rt dX0_at_103 rfl rfl
theorem wX0_at_104 : E_ d mX0_at 104 [.val (.ref a), s1, s2, s3] st h = E_ d mX0_at 105 [.val (.ref a), s1, s2, s3] (.ref a :: st) h := e_go dX0_at_104 rfl rfl
theorem wX0_at_105 : E_ d mX0_at 105 ls st h = E_ d mX0_at 107 ls (.int ((-2)) :: st) h := e_bipush dX0_at_105 kbipush_m2 rfl
theorem wX0_at_107 (ht : oT h a = 1) : E_ (d + 1) mX0_at 107 ls [.int x1, .ref a] h = (C_ d mX0_no [.ref a, .int x1] h).bind fun r => E_ (d + 1) mX0_at 110 ls (xpu r.1 []) r.2 := e_vir dX0_at_107 rfl rfl rfl rfl rfl rfl (Nat.le_of_ble_eq_true rfl) (Nat.le_of_ble_eq_true rfl) ht
theorem wX0_at_110 : E_ d mX0_at 110 ls [.int x] h = some (some (.int x), h) := e_rt dX0_at_110 rfl rfl
/-! FootOut.rate -/
theorem wX0_rate_0 : E_ d mX0_rate 0 [s0, s1, .val (.int x), s3, s4, s5] st h = E_ d mX0_rate 1 [s0, s1, .val (.int x), s3, s4, s5] (.int x :: st) h := e_go dX0_rate_0 rfl rfl
theorem wX0_rate_1 : E_ d mX0_rate 1 ls (.int x :: st) h = E_ d mX0_rate 2 ls (.long x.toInt64 :: st) h := e_go dX0_rate_1 rfl rfl
theorem wX0_rate_2 : E_ d mX0_rate 2 ls st h = E_ d mX0_rate 3 ls (.long 0 :: st) h := e_go dX0_rate_2 rfl rfl
theorem wX0_rate_3 : E_ d mX0_rate 3 ls st h = E_ d mX0_rate 4 ls (.long 1 :: st) h := e_go dX0_rate_3 rfl rfl
theorem wX0_rate_4 : E_ (d + 1) mX0_rate 4 ls [.long u3, .long u2, .long u1] h = (C_ d mX0_in [.long u1, .long u2, .long u3] h).bind fun r => E_ (d + 1) mX0_rate 7 ls (xpu r.1 []) r.2 := e_call dX0_rate_4 rfl rfl
theorem wX0_rate_7 : E_ d mX0_rate 7 ls (.int x :: st) h = if x = 0 then E_ d mX0_rate 10 ls st h else E_ d mX0_rate 17 ls st h := e_zne dX0_rate_7 rfl rfl
theorem wX0_rate_10 : E_ d mX0_rate 10 [.val (.ref a), s1, s2, s3, s4, s5] st h = E_ d mX0_rate 11 [.val (.ref a), s1, s2, s3, s4, s5] (.ref a :: st) h := e_go dX0_rate_10 rfl rfl
theorem wX0_rate_11 : E_ d mX0_rate 11 ls st h = E_ d mX0_rate 13 ls (.int ((-2)) :: st) h := e_bipush dX0_rate_11 kbipush_m2 rfl
theorem wX0_rate_13 (ht : oT h a = 1) : E_ (d + 1) mX0_rate 13 ls [.int x1, .ref a] h = (C_ d mX0_no [.ref a, .int x1] h).bind fun r => E_ (d + 1) mX0_rate 16 ls (xpu r.1 []) r.2 := e_vir dX0_rate_13 rfl rfl rfl rfl rfl rfl (Nat.le_of_ble_eq_true rfl) (Nat.le_of_ble_eq_true rfl) ht
theorem wX0_rate_16 : E_ d mX0_rate 16 ls [.int x] h = some (some (.int x), h) := e_rt dX0_rate_16 rfl rfl
theorem wX0_rate_17 : E_ d mX0_rate 17 ls st h = E_ d mX0_rate 18 ls (.int (nI 0) :: st) h := e_iconst dX0_rate_17 kiconst_0 rfl
theorem wX0_rate_18 : E_ d mX0_rate 18 [s0, s1, s2, s3, s4, s5] (.int x :: st) h = E_ d mX0_rate 19 [s0, s1, xk s2, .val (.int x), s4, s5] st h := e_go dX0_rate_18 rfl rfl
theorem wX0_rate_19 : E_ d mX0_rate 19 ls st h = E_ d mX0_rate 20 ls (.int (nI 0) :: st) h := e_iconst dX0_rate_19 kiconst_0 rfl
theorem wX0_rate_20 : E_ d mX0_rate 20 [s0, s1, s2, s3, s4, s5] (.int x :: st) h = E_ d mX0_rate 22 [s0, s1, s2, xk s3, .val (.int x), s5] st h := e_go dX0_rate_20 rfl rfl
theorem wX0_rate_22 : E_ d mX0_rate 22 ls st h = E_ d mX0_rate 23 ls (.int (nI 0) :: st) h := e_iconst dX0_rate_22 kiconst_0 rfl
theorem wX0_rate_23 : E_ d mX0_rate 23 [s0, s1, s2, s3, s4, s5] (.int x :: st) h = E_ d mX0_rate 25 [s0, s1, s2, s3, xk s4, .val (.int x)] st h := e_go dX0_rate_23 rfl rfl
theorem wX0_rate_25 : E_ d mX0_rate 25 [s0, s1, s2, s3, s4, .val (.int x)] st h = E_ d mX0_rate 27 [s0, s1, s2, s3, s4, .val (.int x)] (.int x :: st) h := e_go dX0_rate_25 rfl rfl
theorem wX0_rate_27 : E_ d mX0_rate 27 [.val (.ref a), s1, s2, s3, s4, s5] st h = E_ d mX0_rate 28 [.val (.ref a), s1, s2, s3, s4, s5] (.ref a :: st) h := e_go dX0_rate_27 rfl rfl
theorem wX0_rate_28 (ht : oT h a = 1) : E_ d mX0_rate 28 ls (.ref a :: st) h = E_ d mX0_rate 31 ls (va_rf (oR h a 0) :: st) h := e_getR dX0_rate_28 rfl rfl ht
theorem wX0_rate_31 (ht : oT h a = 2) : E_ d mX0_rate 31 ls (.ref a :: st) h = E_ d mX0_rate 34 ls (va_rf (oR h a 2) :: st) h := e_getR0 dX0_rate_31 rfl rfl ht
theorem wX0_rate_34 (ht : oT h a = 4) : E_ (d + 1) mX0_rate 34 ls [.ref a, .int x1] h = (C_ d mJ2_size [.ref a] h).bind fun r => E_ (d + 1) mX0_rate 37 ls (xpu r.1 [.int x1]) r.2 := e_vir dX0_rate_34 rfl rfl rfl rfl rfl rfl (Nat.le_of_ble_eq_true rfl) (Nat.le_of_ble_eq_true rfl) ht
theorem wX0_rate_37 : E_ d mX0_rate 37 ls (.int y :: .int x :: st) h = if x < y then E_ d mX0_rate 40 ls st h else E_ d mX0_rate 115 ls st h := e_ige dX0_rate_37 rfl rfl
theorem wX0_rate_40 : E_ d mX0_rate 40 [.val (.ref a), s1, s2, s3, s4, s5] st h = E_ d mX0_rate 41 [.val (.ref a), s1, s2, s3, s4, s5] (.ref a :: st) h := e_go dX0_rate_40 rfl rfl
theorem wX0_rate_41 (ht : oT h a = 1) : E_ d mX0_rate 41 ls (.ref a :: st) h = E_ d mX0_rate 44 ls (va_rf (oR h a 0) :: st) h := e_getR dX0_rate_41 rfl rfl ht
theorem wX0_rate_44 (ht : oT h a = 2) : E_ d mX0_rate 44 ls (.ref a :: st) h = E_ d mX0_rate 47 ls (va_rf (oR h a 2) :: st) h := e_getR0 dX0_rate_44 rfl rfl ht
theorem wX0_rate_47 : E_ d mX0_rate 47 [s0, s1, s2, s3, s4, .val (.int x)] st h = E_ d mX0_rate 49 [s0, s1, s2, s3, s4, .val (.int x)] (.int x :: st) h := e_go dX0_rate_47 rfl rfl
theorem wX0_rate_49 (ht : oT h a = 4) : E_ (d + 1) mX0_rate 49 ls [.int x1, .ref a] h = (C_ d mJ2_get [.ref a, .int x1] h).bind fun r => E_ (d + 1) mX0_rate 52 ls (xpu r.1 []) r.2 := e_vir dX0_rate_49 rfl rfl rfl rfl rfl rfl (Nat.le_of_ble_eq_true rfl) (Nat.le_of_ble_eq_true rfl) ht
theorem wX0_rate_52 (ht : oT h a = 19) : E_ d mX0_rate 52 ls (.ref a :: st) h = E_ d mX0_rate 55 ls (.ref a :: st) h := e_cast dX0_rate_52 rfl rfl ht
theorem wX0_rate_52n : E_ d mX0_rate 52 ls (.null :: st) h = E_ d mX0_rate 55 ls (.null :: st) h := e_go dX0_rate_52 rfl rfl
theorem wX0_rate_55 (ht : oT h a = 19) : E_ d mX0_rate 55 ls (.ref a :: st) h = E_ d mX0_rate 58 ls (.int (oI h a 0) :: st) h := e_getZ0 dX0_rate_55 rfl rfl ht
theorem wX0_rate_58 : E_ d mX0_rate 58 [s0, .val (.int x), s2, s3, s4, s5] st h = E_ d mX0_rate 59 [s0, .val (.int x), s2, s3, s4, s5] (.int x :: st) h := e_go dX0_rate_58 rfl rfl
theorem wX0_rate_59 : E_ d mX0_rate 59 ls (.int y :: .int x :: st) h = if x = y then E_ d mX0_rate 65 ls st h else E_ d mX0_rate 62 ls st h := e_ieq dX0_rate_59 rfl rfl
theorem wX0_rate_62 : E_ d mX0_rate 62 ls st h = E_ d mX0_rate 109 ls st h := e_gt dX0_rate_62 rfl
theorem wX0_rate_65 : E_ d mX0_rate 65 [s0, s1, s2, .val (.int x), s4, s5] st h = E_ d mX0_rate 66 [s0, s1, s2, .val (.int x), s4, s5] (.int x :: st) h := e_go dX0_rate_65 rfl rfl
theorem wX0_rate_66 : E_ d mX0_rate 66 [.val (.ref a), s1, s2, s3, s4, s5] st h = E_ d mX0_rate 67 [.val (.ref a), s1, s2, s3, s4, s5] (.ref a :: st) h := e_go dX0_rate_66 rfl rfl
theorem wX0_rate_67 (ht : oT h a = 1) : E_ d mX0_rate 67 ls (.ref a :: st) h = E_ d mX0_rate 70 ls (va_rf (oR h a 0) :: st) h := e_getR dX0_rate_67 rfl rfl ht
theorem wX0_rate_70 (ht : oT h a = 2) : E_ d mX0_rate 70 ls (.ref a :: st) h = E_ d mX0_rate 73 ls (va_rf (oR h a 2) :: st) h := e_getR0 dX0_rate_70 rfl rfl ht
theorem wX0_rate_73 : E_ d mX0_rate 73 [s0, s1, s2, s3, s4, .val (.int x)] st h = E_ d mX0_rate 75 [s0, s1, s2, s3, s4, .val (.int x)] (.int x :: st) h := e_go dX0_rate_73 rfl rfl
theorem wX0_rate_75 (ht : oT h a = 4) : E_ (d + 1) mX0_rate 75 ls [.int x1, .ref a, .int x2] h = (C_ d mJ2_get [.ref a, .int x1] h).bind fun r => E_ (d + 1) mX0_rate 78 ls (xpu r.1 [.int x2]) r.2 := e_vir dX0_rate_75 rfl rfl rfl rfl rfl rfl (Nat.le_of_ble_eq_true rfl) (Nat.le_of_ble_eq_true rfl) ht
theorem wX0_rate_78 (ht : oT h a = 19) : E_ d mX0_rate 78 ls (.ref a :: st) h = E_ d mX0_rate 81 ls (.ref a :: st) h := e_cast dX0_rate_78 rfl rfl ht
theorem wX0_rate_78n : E_ d mX0_rate 78 ls (.null :: st) h = E_ d mX0_rate 81 ls (.null :: st) h := e_go dX0_rate_78 rfl rfl
theorem wX0_rate_81 (ht : oT h a = 19) : E_ (d + 1) mX0_rate 81 ls [.ref a, .int x1] h = (C_ d mX19_hurt [.ref a] h).bind fun r => E_ (d + 1) mX0_rate 84 ls (xpu r.1 [.int x1]) r.2 := e_vir dX0_rate_81 rfl rfl rfl rfl rfl rfl (Nat.le_of_ble_eq_true rfl) (Nat.le_of_ble_eq_true rfl) ht
theorem wX0_rate_84 : E_ d mX0_rate 84 ls (.int y :: .int x :: st) h = E_ d mX0_rate 85 ls (.int (x + y) :: st) h := e_go dX0_rate_84 rfl rfl
theorem wX0_rate_85 : E_ d mX0_rate 85 [s0, s1, s2, s3, s4, s5] (.int x :: st) h = E_ d mX0_rate 86 [s0, s1, xk s2, .val (.int x), s4, s5] st h := e_go dX0_rate_85 rfl rfl
theorem wX0_rate_86 : E_ d mX0_rate 86 [s0, s1, s2, s3, .val (.int x), s5] st h = E_ d mX0_rate 88 [s0, s1, s2, s3, .val (.int x), s5] (.int x :: st) h := e_go dX0_rate_86 rfl rfl
theorem wX0_rate_88 : E_ d mX0_rate 88 [.val (.ref a), s1, s2, s3, s4, s5] st h = E_ d mX0_rate 89 [.val (.ref a), s1, s2, s3, s4, s5] (.ref a :: st) h := e_go dX0_rate_88 rfl rfl
theorem wX0_rate_89 (ht : oT h a = 1) : E_ d mX0_rate 89 ls (.ref a :: st) h = E_ d mX0_rate 92 ls (va_rf (oR h a 0) :: st) h := e_getR dX0_rate_89 rfl rfl ht
theorem wX0_rate_92 (ht : oT h a = 2) : E_ d mX0_rate 92 ls (.ref a :: st) h = E_ d mX0_rate 95 ls (va_rf (oR h a 2) :: st) h := e_getR0 dX0_rate_92 rfl rfl ht
theorem wX0_rate_95 : E_ d mX0_rate 95 [s0, s1, s2, s3, s4, .val (.int x)] st h = E_ d mX0_rate 97 [s0, s1, s2, s3, s4, .val (.int x)] (.int x :: st) h := e_go dX0_rate_95 rfl rfl
theorem wX0_rate_97 (ht : oT h a = 4) : E_ (d + 1) mX0_rate 97 ls [.int x1, .ref a, .int x2] h = (C_ d mJ2_get [.ref a, .int x1] h).bind fun r => E_ (d + 1) mX0_rate 100 ls (xpu r.1 [.int x2]) r.2 := e_vir dX0_rate_97 rfl rfl rfl rfl rfl rfl (Nat.le_of_ble_eq_true rfl) (Nat.le_of_ble_eq_true rfl) ht
theorem wX0_rate_100 (ht : oT h a = 19) : E_ d mX0_rate 100 ls (.ref a :: st) h = E_ d mX0_rate 103 ls (.ref a :: st) h := e_cast dX0_rate_100 rfl rfl ht
theorem wX0_rate_100n : E_ d mX0_rate 100 ls (.null :: st) h = E_ d mX0_rate 103 ls (.null :: st) h := e_go dX0_rate_100 rfl rfl
theorem wX0_rate_103 (ht : oT h a = 19) : E_ (d + 1) mX0_rate 103 ls [.ref a, .int x1] h = (C_ d mX19_crossing [.ref a] h).bind fun r => E_ (d + 1) mX0_rate 106 ls (xpu r.1 [.int x1]) r.2 := e_vir dX0_rate_103 rfl rfl rfl rfl rfl rfl (Nat.le_of_ble_eq_true rfl) (Nat.le_of_ble_eq_true rfl) ht
theorem wX0_rate_106 : E_ d mX0_rate 106 ls (.int y :: .int x :: st) h = E_ d mX0_rate 107 ls (.int (x + y) :: st) h := e_go dX0_rate_106 rfl rfl
theorem wX0_rate_107 : E_ d mX0_rate 107 [s0, s1, s2, s3, s4, s5] (.int x :: st) h = E_ d mX0_rate 109 [s0, s1, s2, xk s3, .val (.int x), s5] st h := e_go dX0_rate_107 rfl rfl
theorem wX0_rate_109 : E_ d mX0_rate 109 [s0, s1, s2, s3, s4, .val (.int x)] st h = E_ d mX0_rate 112 [s0, s1, s2, s3, xk s4, .val (.int (x + nI 1))] st h := by rw [← kiinc_1]; exact e_go dX0_rate_109 rfl rfl
theorem wX0_rate_112 : E_ d mX0_rate 112 ls st h = E_ d mX0_rate 25 ls st h := e_gt dX0_rate_112 rfl
theorem wX0_rate_115 : E_ d mX0_rate 115 [s0, s1, s2, .val (.int x), s4, s5] st h = E_ d mX0_rate 116 [s0, s1, s2, .val (.int x), s4, s5] (.int x :: st) h := e_go dX0_rate_115 rfl rfl
theorem wX0_rate_116 : E_ d mX0_rate 116 ls (.int x :: st) h = if x = 0 then E_ d mX0_rate 119 ls st h else E_ d mX0_rate 121 ls st h := e_zne dX0_rate_116 rfl rfl
theorem wX0_rate_119 : E_ d mX0_rate 119 [s0, s1, .val (.int x), s3, s4, s5] st h = E_ d mX0_rate 120 [s0, s1, .val (.int x), s3, s4, s5] (.int x :: st) h := e_go dX0_rate_119 rfl rfl
theorem wX0_rate_120 : E_ d mX0_rate 120 ls [.int x] h = some (some (.int x), h) := e_rt dX0_rate_120 rfl rfl
theorem wX0_rate_121 : E_ d mX0_rate 121 [s0, s1, .val (.int x), s3, s4, s5] st h = E_ d mX0_rate 122 [s0, s1, .val (.int x), s3, s4, s5] (.int x :: st) h := e_go dX0_rate_121 rfl rfl
theorem wX0_rate_122 : E_ d mX0_rate 122 ls (.int x :: st) h = if x = 0 then E_ d mX0_rate 125 ls st h else E_ d mX0_rate 129 ls st h := e_zne dX0_rate_122 rfl rfl
theorem wX0_rate_125 : E_ d mX0_rate 125 [s0, s1, s2, .val (.int x), s4, s5] st h = E_ d mX0_rate 126 [s0, s1, s2, .val (.int x), s4, s5] (.int x :: st) h := e_go dX0_rate_125 rfl rfl
theorem wX0_rate_126 : E_ d mX0_rate 126 ls st h = E_ d mX0_rate 131 ls st h := e_gt dX0_rate_126 rfl
theorem wX0_rate_129 : E_ d mX0_rate 129 [s0, s1, s2, s3, .val (.int x), s5] st h = E_ d mX0_rate 131 [s0, s1, s2, s3, .val (.int x), s5] (.int x :: st) h := e_go dX0_rate_129 rfl rfl
theorem wX0_rate_131 : E_ d mX0_rate 131 [s0, s1, s2, .val (.int x), s4, s5] st h = E_ d mX0_rate 132 [s0, s1, s2, .val (.int x), s4, s5] (.int x :: st) h := e_go dX0_rate_131 rfl rfl
theorem wX0_rate_132 : E_ d mX0_rate 132 [s0, s1, s2, s3, .val (.int x), s5] st h = E_ d mX0_rate 134 [s0, s1, s2, s3, .val (.int x), s5] (.int x :: st) h := e_go dX0_rate_132 rfl rfl
theorem wX0_rate_134 : E_ (d + 1) mX0_rate 134 ls [.int x2, .int x1, .int x3] h = (C_ d mX0_common [.int x1, .int x2] h).bind fun r => E_ (d + 1) mX0_rate 137 ls (xpu r.1 [.int x3]) r.2 := e_call dX0_rate_134 rfl rfl
theorem wX0_rate_137 (hy : ¬ y = 0) : E_ d mX0_rate 137 ls (.int y :: .int x :: st) h = E_ d mX0_rate 138 ls (.int (x / y) :: st) h := e_div dX0_rate_137 rfl hy
theorem wX0_rate_138 : E_ d mX0_rate 138 ls [.int x] h = some (some (.int x), h) := e_rt dX0_rate_138 rfl rfl
/-! FootOut.common -/
theorem wX0_common_0 : E_ d mX0_common 0 [s0, .val (.int x)] st h = E_ d mX0_common 1 [s0, .val (.int x)] (.int x :: st) h := e_go dX0_common_0 rfl rfl
theorem wX0_common_1 : E_ d mX0_common 1 ls (.int x :: st) h = if x = 0 then E_ d mX0_common 4 ls st h else E_ d mX0_common 8 ls st h := e_zne dX0_common_1 rfl rfl
theorem wX0_common_4 : E_ d mX0_common 4 [.val (.int x), s1] st h = E_ d mX0_common 5 [.val (.int x), s1] (.int x :: st) h := e_go dX0_common_4 rfl rfl
theorem wX0_common_5 : E_ d mX0_common 5 ls st h = E_ d mX0_common 15 ls st h := e_gt dX0_common_5 rfl
theorem wX0_common_8 : E_ d mX0_common 8 [s0, .val (.int x)] st h = E_ d mX0_common 9 [s0, .val (.int x)] (.int x :: st) h := e_go dX0_common_8 rfl rfl
theorem wX0_common_9 : E_ d mX0_common 9 [.val (.int x), s1] st h = E_ d mX0_common 10 [.val (.int x), s1] (.int x :: st) h := e_go dX0_common_9 rfl rfl
theorem wX0_common_10 : E_ d mX0_common 10 [s0, .val (.int x)] st h = E_ d mX0_common 11 [s0, .val (.int x)] (.int x :: st) h := e_go dX0_common_10 rfl rfl
theorem wX0_common_11 (hy : ¬ y = 0) : E_ d mX0_common 11 ls (.int y :: .int x :: st) h = E_ d mX0_common 12 ls (.int (x - x / y * y) :: st) h := e_rem dX0_common_11 rfl hy
theorem wX0_common_12 : E_ (d + 1) mX0_common 12 ls [.int x2, .int x1] h = (C_ d mX0_common [.int x1, .int x2] h).bind fun r => E_ (d + 1) mX0_common 15 ls (xpu r.1 []) r.2 := e_call dX0_common_12 rfl rfl
theorem wX0_common_15 : E_ d mX0_common 15 ls [.int x] h = some (some (.int x), h) := e_rt dX0_common_15 rfl rfl
/-! FootOut.parted -/
theorem wX0_parted_0 : E_ d mX0_parted 0 [.val (.ref a), s1, s2, s3, s4] st h = E_ d mX0_parted 1 [.val (.ref a), s1, s2, s3, s4] (.ref a :: st) h := e_go dX0_parted_0 rfl rfl
theorem wX0_parted_1 : E_ d mX0_parted 1 ls st h = E_ d mX0_parted 2 ls (.int (nI 1) :: st) h := e_iconst dX0_parted_1 kiconst_1 rfl
theorem wX0_parted_2 (ht : oT h a = 1) : E_ (d + 1) mX0_parted 2 ls [.int x1, .ref a] h = (C_ d mX0_above [.ref a, .int x1] h).bind fun r => E_ (d + 1) mX0_parted 5 ls (xpu r.1 []) r.2 := e_vir dX0_parted_2 rfl rfl rfl rfl rfl rfl (Nat.le_of_ble_eq_true rfl) (Nat.le_of_ble_eq_true rfl) ht
theorem wX0_parted_5 : E_ d mX0_parted 5 [.val (.ref a), s1, s2, s3, s4] st h = E_ d mX0_parted 6 [.val (.ref a), s1, s2, s3, s4] (.ref a :: st) h := e_go dX0_parted_5 rfl rfl
theorem wX0_parted_6 : E_ d mX0_parted 6 ls st h = E_ d mX0_parted 7 ls (.int (nI 0) :: st) h := e_iconst dX0_parted_6 kiconst_0 rfl
theorem wX0_parted_7 : E_ d mX0_parted 7 ls st h = E_ d mX0_parted 8 ls (.int (nI 0) :: st) h := e_iconst dX0_parted_7 kiconst_0 rfl
theorem wX0_parted_8 (ht : oT h a = 1) : E_ (d + 1) mX0_parted 8 ls [.int x2, .int x1, .ref a, .long u1] h = (C_ d mX0_below [.ref a, .int x1, .int x2] h).bind fun r => E_ (d + 1) mX0_parted 11 ls (xpu r.1 [.long u1]) r.2 := e_vir dX0_parted_8 rfl rfl rfl rfl rfl rfl (Nat.le_of_ble_eq_true rfl) (Nat.le_of_ble_eq_true rfl) ht
theorem wX0_parted_11 : E_ d mX0_parted 11 ls (.long v :: .long u :: st) h = E_ d mX0_parted 12 ls (.long (u * v) :: st) h := e_go dX0_parted_11 rfl rfl
theorem wX0_parted_12 : E_ d mX0_parted 12 [.val (.ref a), s1, s2, s3, s4] st h = E_ d mX0_parted 13 [.val (.ref a), s1, s2, s3, s4] (.ref a :: st) h := e_go dX0_parted_12 rfl rfl
theorem wX0_parted_13 : E_ d mX0_parted 13 ls st h = E_ d mX0_parted 14 ls (.int (nI 0) :: st) h := e_iconst dX0_parted_13 kiconst_0 rfl
theorem wX0_parted_14 : E_ d mX0_parted 14 ls st h = E_ d mX0_parted 15 ls (.int (nI 1) :: st) h := e_iconst dX0_parted_14 kiconst_1 rfl
theorem wX0_parted_15 (ht : oT h a = 1) : E_ (d + 1) mX0_parted 15 ls [.int x2, .int x1, .ref a, .long u1] h = (C_ d mX0_below [.ref a, .int x1, .int x2] h).bind fun r => E_ (d + 1) mX0_parted 18 ls (xpu r.1 [.long u1]) r.2 := e_vir dX0_parted_15 rfl rfl rfl rfl rfl rfl (Nat.le_of_ble_eq_true rfl) (Nat.le_of_ble_eq_true rfl) ht
theorem wX0_parted_18 : E_ d mX0_parted 18 ls (.long v :: .long u :: st) h = E_ d mX0_parted 19 ls (.long (u * v) :: st) h := e_go dX0_parted_18 rfl rfl
theorem wX0_parted_19 : E_ d mX0_parted 19 [s0, s1, s2, s3, s4] (.long u :: st) h = E_ d mX0_parted 20 [xk s0, .val (.long u), .unset, s3, s4] st h := e_go dX0_parted_19 rfl rfl
theorem wX0_parted_20 : E_ d mX0_parted 20 [.val (.ref a), s1, s2, s3, s4] st h = E_ d mX0_parted 21 [.val (.ref a), s1, s2, s3, s4] (.ref a :: st) h := e_go dX0_parted_20 rfl rfl
theorem wX0_parted_21 : E_ d mX0_parted 21 ls st h = E_ d mX0_parted 22 ls (.int (nI 0) :: st) h := e_iconst dX0_parted_21 kiconst_0 rfl
theorem wX0_parted_22 (ht : oT h a = 1) : E_ (d + 1) mX0_parted 22 ls [.int x1, .ref a] h = (C_ d mX0_above [.ref a, .int x1] h).bind fun r => E_ (d + 1) mX0_parted 25 ls (xpu r.1 []) r.2 := e_vir dX0_parted_22 rfl rfl rfl rfl rfl rfl (Nat.le_of_ble_eq_true rfl) (Nat.le_of_ble_eq_true rfl) ht
theorem wX0_parted_25 : E_ d mX0_parted 25 [.val (.ref a), s1, s2, s3, s4] st h = E_ d mX0_parted 26 [.val (.ref a), s1, s2, s3, s4] (.ref a :: st) h := e_go dX0_parted_25 rfl rfl
theorem wX0_parted_26 : E_ d mX0_parted 26 ls st h = E_ d mX0_parted 27 ls (.int (nI 1) :: st) h := e_iconst dX0_parted_26 kiconst_1 rfl
theorem wX0_parted_27 : E_ d mX0_parted 27 ls st h = E_ d mX0_parted 28 ls (.int (nI 0) :: st) h := e_iconst dX0_parted_27 kiconst_0 rfl
theorem wX0_parted_28 (ht : oT h a = 1) : E_ (d + 1) mX0_parted 28 ls [.int x2, .int x1, .ref a, .long u1] h = (C_ d mX0_below [.ref a, .int x1, .int x2] h).bind fun r => E_ (d + 1) mX0_parted 31 ls (xpu r.1 [.long u1]) r.2 := e_vir dX0_parted_28 rfl rfl rfl rfl rfl rfl (Nat.le_of_ble_eq_true rfl) (Nat.le_of_ble_eq_true rfl) ht
theorem wX0_parted_31 : E_ d mX0_parted 31 ls (.long v :: .long u :: st) h = E_ d mX0_parted 32 ls (.long (u * v) :: st) h := e_go dX0_parted_31 rfl rfl
theorem wX0_parted_32 : E_ d mX0_parted 32 [.val (.ref a), s1, s2, s3, s4] st h = E_ d mX0_parted 33 [.val (.ref a), s1, s2, s3, s4] (.ref a :: st) h := e_go dX0_parted_32 rfl rfl
theorem wX0_parted_33 : E_ d mX0_parted 33 ls st h = E_ d mX0_parted 34 ls (.int (nI 1) :: st) h := e_iconst dX0_parted_33 kiconst_1 rfl
theorem wX0_parted_34 : E_ d mX0_parted 34 ls st h = E_ d mX0_parted 35 ls (.int (nI 1) :: st) h := e_iconst dX0_parted_34 kiconst_1 rfl
theorem wX0_parted_35 (ht : oT h a = 1) : E_ (d + 1) mX0_parted 35 ls [.int x2, .int x1, .ref a, .long u1] h = (C_ d mX0_below [.ref a, .int x1, .int x2] h).bind fun r => E_ (d + 1) mX0_parted 38 ls (xpu r.1 [.long u1]) r.2 := e_vir dX0_parted_35 rfl rfl rfl rfl rfl rfl (Nat.le_of_ble_eq_true rfl) (Nat.le_of_ble_eq_true rfl) ht
theorem wX0_parted_38 : E_ d mX0_parted 38 ls (.long v :: .long u :: st) h = E_ d mX0_parted 39 ls (.long (u * v) :: st) h := e_go dX0_parted_38 rfl rfl
theorem wX0_parted_39 : E_ d mX0_parted 39 [s0, s1, s2, s3, s4] (.long u :: st) h = E_ d mX0_parted 40 [s0, s1, xk s2, .val (.long u), .unset] st h := e_go dX0_parted_39 rfl rfl
theorem wX0_parted_40 : E_ d mX0_parted 40 [s0, .val (.long u), s2, s3, s4] st h = E_ d mX0_parted 41 [s0, .val (.long u), s2, s3, s4] (.long u :: st) h := e_go dX0_parted_40 rfl rfl
theorem wX0_parted_41 : E_ d mX0_parted 41 [s0, s1, s2, .val (.long u), s4] st h = E_ d mX0_parted 42 [s0, s1, s2, .val (.long u), s4] (.long u :: st) h := e_go dX0_parted_41 rfl rfl
theorem wX0_parted_42 : E_ d mX0_parted 42 ls (.long v :: .long u :: st) h = E_ d mX0_parted 43 ls (.int (lg_cmp u v) :: st) h := e_go dX0_parted_42 rfl rfl
theorem wX0_parted_43 : E_ d mX0_parted 43 ls (.int x :: st) h = if 0 < x then E_ d mX0_parted 46 ls st h else E_ d mX0_parted 50 ls st h := e_zle dX0_parted_43 rfl rfl
theorem wX0_parted_46 : E_ d mX0_parted 46 ls st h = E_ d mX0_parted 47 ls (.int (nI 1) :: st) h := e_iconst dX0_parted_46 kiconst_1 rfl
theorem wX0_parted_47 : E_ d mX0_parted 47 ls st h = E_ d mX0_parted 61 ls st h := e_gt dX0_parted_47 rfl
theorem wX0_parted_50 : E_ d mX0_parted 50 [s0, .val (.long u), s2, s3, s4] st h = E_ d mX0_parted 51 [s0, .val (.long u), s2, s3, s4] (.long u :: st) h := e_go dX0_parted_50 rfl rfl
theorem wX0_parted_51 : E_ d mX0_parted 51 [s0, s1, s2, .val (.long u), s4] st h = E_ d mX0_parted 52 [s0, s1, s2, .val (.long u), s4] (.long u :: st) h := e_go dX0_parted_51 rfl rfl
theorem wX0_parted_52 : E_ d mX0_parted 52 ls (.long v :: .long u :: st) h = E_ d mX0_parted 53 ls (.int (lg_cmp u v) :: st) h := e_go dX0_parted_52 rfl rfl
theorem wX0_parted_53 : E_ d mX0_parted 53 ls (.int x :: st) h = if x = 0 then E_ d mX0_parted 56 ls st h else E_ d mX0_parted 60 ls st h := e_zne dX0_parted_53 rfl rfl
theorem wX0_parted_56 : E_ d mX0_parted 56 ls st h = E_ d mX0_parted 57 ls (.int (nI 0) :: st) h := e_iconst dX0_parted_56 kiconst_0 rfl
theorem wX0_parted_57 : E_ d mX0_parted 57 ls st h = E_ d mX0_parted 61 ls st h := e_gt dX0_parted_57 rfl
theorem wX0_parted_60 : E_ d mX0_parted 60 ls st h = E_ d mX0_parted 61 ls (.int (nI 2) :: st) h := e_iconst dX0_parted_60 kiconst_2 rfl
theorem wX0_parted_61 : E_ d mX0_parted 61 ls [.int x] h = some (some (.int x), h) := e_rt dX0_parted_61 rfl rfl
