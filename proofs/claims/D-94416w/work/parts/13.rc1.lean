variable {d a b e f : Nat} {ls : List Slot} {st : List Value} {h : xH} {x y z x1 x2 x3 x4 x5 x6 x7 x8 : Int32} {u v u1 u2 u3 u4 u5 u6 : Int64} {r1 r2 r3 r4 r5 r6 : Nat} {s0 s1 s2 s3 s4 s5 s6 s7 s8 s9 s10 s11 s12 s13 : Slot} {q : Option Nat}
/-! FootOutModel.<init> -/
theorem wX5_init_0 : E_ d mX5_init 0 [.val (.ref a), s1] st h = E_ d mX5_init 1 [.val (.ref a), s1] (.ref a :: st) h := e_go dX5_init_0 rfl rfl
theorem wX5_init_1 : E_ d mX5_init 1 ls [.ref a] h = E_ d mX5_init 4 ls [] h := e_go dX5_init_1 rfl rfl
theorem wX5_init_4 : E_ d mX5_init 4 [.val (.ref a), s1] st h = E_ d mX5_init 5 [.val (.ref a), s1] (.ref a :: st) h := e_go dX5_init_4 rfl rfl
theorem wX5_init_5 : E_ d mX5_init 5 ls st h = E_ d mX5_init 7 ls (.int (nI 6) :: st) h := e_bipush dX5_init_5 kbipush_6 rfl
theorem wX5_init_7 (h0 : 0 ≤ x.toInt) (h1 : x.toInt ≤ 65536) : E_ d mX5_init 7 ls (.int x :: st) h = E_ d mX5_init 9 ls (.ref (oX h) :: st) (pO h 40 x.toNatClampNeg) := e_newa dX5_init_7 rfl rfl h0 h1
theorem wX5_init_9 (ht : oT h a = 7) : E_ d mX5_init 9 ls (.ref b :: .ref a :: st) h = E_ d mX5_init 12 ls st (pR h a (va_up (oR h a) 1 (some b))) := e_putR0 dX5_init_9 rfl rfl rfl ht
theorem wX5_init_9q (ht : oT h a = 7) : E_ d mX5_init 9 ls (va_rf q :: .ref a :: st) h = E_ d mX5_init 12 ls st (pR h a (va_up (oR h a) 1 q)) := e_putR0q dX5_init_9 rfl rfl rfl ht
theorem wX5_init_12 : E_ d mX5_init 12 [.val (.ref a), s1] st h = E_ d mX5_init 13 [.val (.ref a), s1] (.ref a :: st) h := e_go dX5_init_12 rfl rfl
theorem wX5_init_13 : E_ d mX5_init 13 ls st h = E_ d mX5_init 16 ls (.int (nI 1734) :: st) h := e_sipush dX5_init_13 ksipush_1734 rfl
theorem wX5_init_16 (h0 : 0 ≤ x.toInt) (h1 : x.toInt ≤ 65536) : E_ d mX5_init 16 ls (.int x :: st) h = E_ d mX5_init 18 ls (.ref (oX h) :: st) (pO h 40 x.toNatClampNeg) := e_newa dX5_init_16 rfl rfl h0 h1
theorem wX5_init_18 (ht : oT h a = 7) : E_ d mX5_init 18 ls (.ref b :: .ref a :: st) h = E_ d mX5_init 21 ls st (pR h a (va_up (oR h a) 2 (some b))) := e_putR0 dX5_init_18 rfl rfl rfl ht
theorem wX5_init_18q (ht : oT h a = 7) : E_ d mX5_init 18 ls (va_rf q :: .ref a :: st) h = E_ d mX5_init 21 ls st (pR h a (va_up (oR h a) 2 q)) := e_putR0q dX5_init_18 rfl rfl rfl ht
theorem wX5_init_21 : E_ d mX5_init 21 [.val (.ref a), s1] st h = E_ d mX5_init 22 [.val (.ref a), s1] (.ref a :: st) h := e_go dX5_init_21 rfl rfl
theorem wX5_init_22 : E_ d mX5_init 22 ls st h = E_ d mX5_init 23 ls (.int (nI 2) :: st) h := e_iconst dX5_init_22 kiconst_2 rfl
theorem wX5_init_23 (h0 : 0 ≤ x.toInt) (h1 : x.toInt ≤ 65536) : E_ d mX5_init 23 ls (.int x :: st) h = E_ d mX5_init 25 ls (.ref (oX h) :: st) (pO h 42 x.toNatClampNeg) := e_newa dX5_init_23 rfl rfl h0 h1
theorem wX5_init_25 (ht : oT h a = 7) : E_ d mX5_init 25 ls (.ref b :: .ref a :: st) h = E_ d mX5_init 28 ls st (pR h a (va_up (oR h a) 3 (some b))) := e_putR0 dX5_init_25 rfl rfl rfl ht
theorem wX5_init_25q (ht : oT h a = 7) : E_ d mX5_init 25 ls (va_rf q :: .ref a :: st) h = E_ d mX5_init 28 ls st (pR h a (va_up (oR h a) 3 q)) := e_putR0q dX5_init_25 rfl rfl rfl ht
theorem wX5_init_28 : E_ d mX5_init 28 [.val (.ref a), s1] st h = E_ d mX5_init 29 [.val (.ref a), s1] (.ref a :: st) h := e_go dX5_init_28 rfl rfl
theorem wX5_init_29 : E_ d mX5_init 29 ls st h = E_ d mX5_init 32 ls (.int (nI 400) :: st) h := e_sipush dX5_init_29 ksipush_400 rfl
theorem wX5_init_32 (h0 : 0 ≤ x.toInt) (h1 : x.toInt ≤ 65536) : E_ d mX5_init 32 ls (.int x :: st) h = E_ d mX5_init 34 ls (.ref (oX h) :: st) (pO h 40 x.toNatClampNeg) := e_newa dX5_init_32 rfl rfl h0 h1
theorem wX5_init_34 (ht : oT h a = 7) : E_ d mX5_init 34 ls (.ref b :: .ref a :: st) h = E_ d mX5_init 37 ls st (pR h a (va_up (oR h a) 4 (some b))) := e_putR0 dX5_init_34 rfl rfl rfl ht
theorem wX5_init_34q (ht : oT h a = 7) : E_ d mX5_init 34 ls (va_rf q :: .ref a :: st) h = E_ d mX5_init 37 ls st (pR h a (va_up (oR h a) 4 q)) := e_putR0q dX5_init_34 rfl rfl rfl ht
theorem wX5_init_37 : E_ d mX5_init 37 [.val (.ref a), s1] st h = E_ d mX5_init 38 [.val (.ref a), s1] (.ref a :: st) h := e_go dX5_init_37 rfl rfl
theorem wX5_init_38 : E_ d mX5_init 38 ls st h = E_ d mX5_init 41 ls (.int (nI 477) :: st) h := e_sipush dX5_init_38 ksipush_477 rfl
theorem wX5_init_41 (h0 : 0 ≤ x.toInt) (h1 : x.toInt ≤ 65536) : E_ d mX5_init 41 ls (.int x :: st) h = E_ d mX5_init 43 ls (.ref (oX h) :: st) (pO h 40 x.toNatClampNeg) := e_newa dX5_init_41 rfl rfl h0 h1
theorem wX5_init_43 (ht : oT h a = 7) : E_ d mX5_init 43 ls (.ref b :: .ref a :: st) h = E_ d mX5_init 46 ls st (pR h a (va_up (oR h a) 5 (some b))) := e_putR0 dX5_init_43 rfl rfl rfl ht
theorem wX5_init_43q (ht : oT h a = 7) : E_ d mX5_init 43 ls (va_rf q :: .ref a :: st) h = E_ d mX5_init 46 ls st (pR h a (va_up (oR h a) 5 q)) := e_putR0q dX5_init_43 rfl rfl rfl ht
theorem wX5_init_46 : E_ d mX5_init 46 [.val (.ref a), s1] st h = E_ d mX5_init 47 [.val (.ref a), s1] (.ref a :: st) h := e_go dX5_init_46 rfl rfl
theorem wX5_init_47 : E_ d mX5_init 47 ls st h = E_ d mX5_init 48 ls (.int ((-1)) :: st) h := e_iconst dX5_init_47 kiconst_m1 rfl
theorem wX5_init_48 (ht : oT h a = 7) : E_ d mX5_init 48 ls (.int x :: .ref a :: st) h = E_ d mX5_init 51 ls st (pI h a (va_up (oI h a) 17 x)) := e_putI dX5_init_48 rfl rfl ht
theorem wX5_init_51 : E_ d mX5_init 51 [.val (.ref a), s1] st h = E_ d mX5_init 52 [.val (.ref a), s1] (.ref a :: st) h := e_go dX5_init_51 rfl rfl
theorem wX5_init_52 : E_ d mX5_init 52 ls st h = E_ d mX5_init 54 ls (.int (nI 42) :: st) h := e_bipush dX5_init_52 kbipush_42 rfl
theorem wX5_init_54 (h0 : 0 ≤ x.toInt) (h1 : x.toInt ≤ 65536) : E_ d mX5_init 54 ls (.int x :: st) h = E_ d mX5_init 56 ls (.ref (oX h) :: st) (pO h 40 x.toNatClampNeg) := e_newa dX5_init_54 rfl rfl h0 h1
theorem wX5_init_56 (ht : oT h a = 7) : E_ d mX5_init 56 ls (.ref b :: .ref a :: st) h = E_ d mX5_init 59 ls st (pR h a (va_up (oR h a) 18 (some b))) := e_putR0 dX5_init_56 rfl rfl rfl ht
theorem wX5_init_56q (ht : oT h a = 7) : E_ d mX5_init 56 ls (va_rf q :: .ref a :: st) h = E_ d mX5_init 59 ls st (pR h a (va_up (oR h a) 18 q)) := e_putR0q dX5_init_56 rfl rfl rfl ht
theorem wX5_init_59 : E_ d mX5_init 59 [.val (.ref a), s1] st h = E_ d mX5_init 60 [.val (.ref a), s1] (.ref a :: st) h := e_go dX5_init_59 rfl rfl
theorem wX5_init_60 : E_ d mX5_init 60 ls st h = E_ d mX5_init 63 ls (.int (nI 504) :: st) h := e_sipush dX5_init_60 ksipush_504 rfl
theorem wX5_init_63 (h0 : 0 ≤ x.toInt) (h1 : x.toInt ≤ 65536) : E_ d mX5_init 63 ls (.int x :: st) h = E_ d mX5_init 65 ls (.ref (oX h) :: st) (pO h 40 x.toNatClampNeg) := e_newa dX5_init_63 rfl rfl h0 h1
theorem wX5_init_65 (ht : oT h a = 7) : E_ d mX5_init 65 ls (.ref b :: .ref a :: st) h = E_ d mX5_init 68 ls st (pR h a (va_up (oR h a) 19 (some b))) := e_putR0 dX5_init_65 rfl rfl rfl ht
theorem wX5_init_65q (ht : oT h a = 7) : E_ d mX5_init 65 ls (va_rf q :: .ref a :: st) h = E_ d mX5_init 68 ls st (pR h a (va_up (oR h a) 19 q)) := e_putR0q dX5_init_65 rfl rfl rfl ht
theorem wX5_init_68 : E_ d mX5_init 68 [.val (.ref a), s1] st h = E_ d mX5_init 69 [.val (.ref a), s1] (.ref a :: st) h := e_go dX5_init_68 rfl rfl
theorem wX5_init_69 : E_ d mX5_init 69 ls st h = E_ d mX5_init 72 ls (.int (nI 220) :: st) h := e_sipush dX5_init_69 ksipush_220 rfl
theorem wX5_init_72 (h0 : 0 ≤ x.toInt) (h1 : x.toInt ≤ 65536) : E_ d mX5_init 72 ls (.int x :: st) h = E_ d mX5_init 74 ls (.ref (oX h) :: st) (pO h 42 x.toNatClampNeg) := e_newa dX5_init_72 rfl rfl h0 h1
theorem wX5_init_74 (ht : oT h a = 7) : E_ d mX5_init 74 ls (.ref b :: .ref a :: st) h = E_ d mX5_init 77 ls st (pR h a (va_up (oR h a) 20 (some b))) := e_putR0 dX5_init_74 rfl rfl rfl ht
theorem wX5_init_74q (ht : oT h a = 7) : E_ d mX5_init 74 ls (va_rf q :: .ref a :: st) h = E_ d mX5_init 77 ls st (pR h a (va_up (oR h a) 20 q)) := e_putR0q dX5_init_74 rfl rfl rfl ht
theorem wX5_init_77 : E_ d mX5_init 77 [.val (.ref a), s1] st h = E_ d mX5_init 78 [.val (.ref a), s1] (.ref a :: st) h := e_go dX5_init_77 rfl rfl
theorem wX5_init_78 : E_ d mX5_init 78 ls st h = E_ d mX5_init 79 ls (.int ((-1)) :: st) h := e_iconst dX5_init_78 kiconst_m1 rfl
theorem wX5_init_79 (ht : oT h a = 7) : E_ d mX5_init 79 ls (.int x :: .ref a :: st) h = E_ d mX5_init 82 ls st (pI h a (va_up (oI h a) 21 x)) := e_putI dX5_init_79 rfl rfl ht
theorem wX5_init_82 : E_ d mX5_init 82 [.val (.ref a), s1] st h = E_ d mX5_init 83 [.val (.ref a), s1] (.ref a :: st) h := e_go dX5_init_82 rfl rfl
theorem wX5_init_83 : E_ d mX5_init 83 ls st h = E_ d mX5_init 84 ls (.int ((-1)) :: st) h := e_iconst dX5_init_83 kiconst_m1 rfl
theorem wX5_init_84 (ht : oT h a = 7) : E_ d mX5_init 84 ls (.int x :: .ref a :: st) h = E_ d mX5_init 87 ls st (pI h a (va_up (oI h a) 22 x)) := e_putI dX5_init_84 rfl rfl ht
theorem wX5_init_87 : E_ d mX5_init 87 [.val (.ref a), s1] st h = E_ d mX5_init 88 [.val (.ref a), s1] (.ref a :: st) h := e_go dX5_init_87 rfl rfl
theorem wX5_init_88 : E_ d mX5_init 88 ls st h = E_ d mX5_init 90 ls (.int (nI 8) :: st) h := e_bipush dX5_init_88 kbipush_8 rfl
theorem wX5_init_90 (h0 : 0 ≤ x.toInt) (h1 : x.toInt ≤ 65536) : E_ d mX5_init 90 ls (.int x :: st) h = E_ d mX5_init 92 ls (.ref (oX h) :: st) (pO h 42 x.toNatClampNeg) := e_newa dX5_init_90 rfl rfl h0 h1
theorem wX5_init_92 (ht : oT h a = 7) : E_ d mX5_init 92 ls (.ref b :: .ref a :: st) h = E_ d mX5_init 95 ls st (pR h a (va_up (oR h a) 24 (some b))) := e_putR0 dX5_init_92 rfl rfl rfl ht
theorem wX5_init_92q (ht : oT h a = 7) : E_ d mX5_init 92 ls (va_rf q :: .ref a :: st) h = E_ d mX5_init 95 ls st (pR h a (va_up (oR h a) 24 q)) := e_putR0q dX5_init_92 rfl rfl rfl ht
theorem wX5_init_95 : E_ d mX5_init 95 [.val (.ref a), s1] st h = E_ d mX5_init 96 [.val (.ref a), s1] (.ref a :: st) h := e_go dX5_init_95 rfl rfl
theorem wX5_init_96 : E_ d mX5_init 96 ls st h = E_ d mX5_init 98 ls (.int (nI 8) :: st) h := e_bipush dX5_init_96 kbipush_8 rfl
theorem wX5_init_98 (h0 : 0 ≤ x.toInt) (h1 : x.toInt ≤ 65536) : E_ d mX5_init 98 ls (.int x :: st) h = E_ d mX5_init 100 ls (.ref (oX h) :: st) (pO h 42 x.toNatClampNeg) := e_newa dX5_init_98 rfl rfl h0 h1
theorem wX5_init_100 (ht : oT h a = 7) : E_ d mX5_init 100 ls (.ref b :: .ref a :: st) h = E_ d mX5_init 103 ls st (pR h a (va_up (oR h a) 25 (some b))) := e_putR0 dX5_init_100 rfl rfl rfl ht
theorem wX5_init_100q (ht : oT h a = 7) : E_ d mX5_init 100 ls (va_rf q :: .ref a :: st) h = E_ d mX5_init 103 ls st (pR h a (va_up (oR h a) 25 q)) := e_putR0q dX5_init_100 rfl rfl rfl ht
theorem wX5_init_103 : E_ d mX5_init 103 [.val (.ref a), s1] st h = E_ d mX5_init 104 [.val (.ref a), s1] (.ref a :: st) h := e_go dX5_init_103 rfl rfl
theorem wX5_init_104 : E_ d mX5_init 104 ls st h = E_ d mX5_init 105 ls (.int (nI 5) :: st) h := e_iconst dX5_init_104 kiconst_5 rfl
theorem wX5_init_105 (h0 : 0 ≤ x.toInt) (h1 : x.toInt ≤ 65536) : E_ d mX5_init 105 ls (.int x :: st) h = E_ d mX5_init 107 ls (.ref (oX h) :: st) (pO h 44 x.toNatClampNeg) := e_newa dX5_init_105 rfl rfl h0 h1
theorem wX5_init_107 (ht : oT h a = 7) : E_ d mX5_init 107 ls (.ref b :: .ref a :: st) h = E_ d mX5_init 110 ls st (pR h a (va_up (oR h a) 27 (some b))) := e_putR0 dX5_init_107 rfl rfl rfl ht
theorem wX5_init_107q (ht : oT h a = 7) : E_ d mX5_init 107 ls (va_rf q :: .ref a :: st) h = E_ d mX5_init 110 ls st (pR h a (va_up (oR h a) 27 q)) := e_putR0q dX5_init_107 rfl rfl rfl ht
theorem wX5_init_110 : E_ d mX5_init 110 [.val (.ref a), s1] st h = E_ d mX5_init 111 [.val (.ref a), s1] (.ref a :: st) h := e_go dX5_init_110 rfl rfl
theorem wX5_init_111 : E_ d mX5_init 111 ls st h = E_ d mX5_init 113 ls (.int (nI 8) :: st) h := e_bipush dX5_init_111 kbipush_8 rfl
theorem wX5_init_113 (h0 : 0 ≤ x.toInt) (h1 : x.toInt ≤ 65536) : E_ d mX5_init 113 ls (.int x :: st) h = E_ d mX5_init 115 ls (.ref (oX h) :: st) (pO h 44 x.toNatClampNeg) := e_newa dX5_init_113 rfl rfl h0 h1
theorem wX5_init_115 (ht : oT h a = 7) : E_ d mX5_init 115 ls (.ref b :: .ref a :: st) h = E_ d mX5_init 118 ls st (pR h a (va_up (oR h a) 28 (some b))) := e_putR0 dX5_init_115 rfl rfl rfl ht
theorem wX5_init_115q (ht : oT h a = 7) : E_ d mX5_init 115 ls (va_rf q :: .ref a :: st) h = E_ d mX5_init 118 ls st (pR h a (va_up (oR h a) 28 q)) := e_putR0q dX5_init_115 rfl rfl rfl ht
theorem wX5_init_118 : E_ d mX5_init 118 [.val (.ref a), s1] st h = E_ d mX5_init 119 [.val (.ref a), s1] (.ref a :: st) h := e_go dX5_init_118 rfl rfl
theorem wX5_init_119 : E_ d mX5_init 119 ls st h = E_ d mX5_init 121 ls (.int (nI 8) :: st) h := e_bipush dX5_init_119 kbipush_8 rfl
theorem wX5_init_121 (h0 : 0 ≤ x.toInt) (h1 : x.toInt ≤ 65536) : E_ d mX5_init 121 ls (.int x :: st) h = E_ d mX5_init 123 ls (.ref (oX h) :: st) (pO h 44 x.toNatClampNeg) := e_newa dX5_init_121 rfl rfl h0 h1
theorem wX5_init_123 (ht : oT h a = 7) : E_ d mX5_init 123 ls (.ref b :: .ref a :: st) h = E_ d mX5_init 126 ls st (pR h a (va_up (oR h a) 29 (some b))) := e_putR0 dX5_init_123 rfl rfl rfl ht
theorem wX5_init_123q (ht : oT h a = 7) : E_ d mX5_init 123 ls (va_rf q :: .ref a :: st) h = E_ d mX5_init 126 ls st (pR h a (va_up (oR h a) 29 q)) := e_putR0q dX5_init_123 rfl rfl rfl ht
theorem wX5_init_126 : E_ d mX5_init 126 [.val (.ref a), s1] st h = E_ d mX5_init 127 [.val (.ref a), s1] (.ref a :: st) h := e_go dX5_init_126 rfl rfl
theorem wX5_init_127 : E_ d mX5_init 127 ls st h = E_ d mX5_init 130 ls (.int (nI 13000) :: st) h := e_sipush dX5_init_127 ksipush_13000 rfl
theorem wX5_init_130 (h0 : 0 ≤ x.toInt) (h1 : x.toInt ≤ 65536) : E_ d mX5_init 130 ls (.int x :: st) h = E_ d mX5_init 132 ls (.ref (oX h) :: st) (pO h 40 x.toNatClampNeg) := e_newa dX5_init_130 rfl rfl h0 h1
theorem wX5_init_132 (ht : oT h a = 7) : E_ d mX5_init 132 ls (.ref b :: .ref a :: st) h = E_ d mX5_init 135 ls st (pR h a (va_up (oR h a) 30 (some b))) := e_putR0 dX5_init_132 rfl rfl rfl ht
theorem wX5_init_132q (ht : oT h a = 7) : E_ d mX5_init 132 ls (va_rf q :: .ref a :: st) h = E_ d mX5_init 135 ls st (pR h a (va_up (oR h a) 30 q)) := e_putR0q dX5_init_132 rfl rfl rfl ht
theorem wX5_init_135 : E_ d mX5_init 135 [.val (.ref a), s1] st h = E_ d mX5_init 136 [.val (.ref a), s1] (.ref a :: st) h := e_go dX5_init_135 rfl rfl
theorem wX5_init_136 : E_ d mX5_init 136 ls st h = E_ d mX5_init 139 ls (.int (nI 13000) :: st) h := e_sipush dX5_init_136 ksipush_13000 rfl
theorem wX5_init_139 (h0 : 0 ≤ x.toInt) (h1 : x.toInt ≤ 65536) : E_ d mX5_init 139 ls (.int x :: st) h = E_ d mX5_init 141 ls (.ref (oX h) :: st) (pO h 40 x.toNatClampNeg) := e_newa dX5_init_139 rfl rfl h0 h1
theorem wX5_init_141 (ht : oT h a = 7) : E_ d mX5_init 141 ls (.ref b :: .ref a :: st) h = E_ d mX5_init 144 ls st (pR h a (va_up (oR h a) 31 (some b))) := e_putR0 dX5_init_141 rfl rfl rfl ht
theorem wX5_init_141q (ht : oT h a = 7) : E_ d mX5_init 141 ls (va_rf q :: .ref a :: st) h = E_ d mX5_init 144 ls st (pR h a (va_up (oR h a) 31 q)) := e_putR0q dX5_init_141 rfl rfl rfl ht
theorem wX5_init_144 : E_ d mX5_init 144 [.val (.ref a), s1] st h = E_ d mX5_init 145 [.val (.ref a), s1] (.ref a :: st) h := e_go dX5_init_144 rfl rfl
theorem wX5_init_145 : E_ d mX5_init 145 ls st h = E_ d mX5_init 147 ls (.int (nI 40) :: st) h := e_bipush dX5_init_145 kbipush_40 rfl
theorem wX5_init_147 (h0 : 0 ≤ x.toInt) (h1 : x.toInt ≤ 65536) : E_ d mX5_init 147 ls (.int x :: st) h = E_ d mX5_init 149 ls (.ref (oX h) :: st) (pO h 40 x.toNatClampNeg) := e_newa dX5_init_147 rfl rfl h0 h1
theorem wX5_init_149 (ht : oT h a = 7) : E_ d mX5_init 149 ls (.ref b :: .ref a :: st) h = E_ d mX5_init 152 ls st (pR h a (va_up (oR h a) 32 (some b))) := e_putR0 dX5_init_149 rfl rfl rfl ht
theorem wX5_init_149q (ht : oT h a = 7) : E_ d mX5_init 149 ls (va_rf q :: .ref a :: st) h = E_ d mX5_init 152 ls st (pR h a (va_up (oR h a) 32 q)) := e_putR0q dX5_init_149 rfl rfl rfl ht
theorem wX5_init_152 : E_ d mX5_init 152 [.val (.ref a), s1] st h = E_ d mX5_init 153 [.val (.ref a), s1] (.ref a :: st) h := e_go dX5_init_152 rfl rfl
theorem wX5_init_153 : E_ d mX5_init 153 ls st h = E_ d mX5_init 154 ls (.int (nI 4) :: st) h := e_iconst dX5_init_153 kiconst_4 rfl
theorem wX5_init_154 (h0 : 0 ≤ x.toInt) (h1 : x.toInt ≤ 65536) : E_ d mX5_init 154 ls (.int x :: st) h = E_ d mX5_init 156 ls (.ref (oX h) :: st) (pO h 40 x.toNatClampNeg) := e_newa dX5_init_154 rfl rfl h0 h1
theorem wX5_init_156 : E_ d mX5_init 156 ls (.ref a :: st) h = E_ d mX5_init 157 ls (.ref a :: .ref a :: st) h := e_go dX5_init_156 rfl rfl
theorem wX5_init_157 : E_ d mX5_init 157 ls st h = E_ d mX5_init 158 ls (.int (nI 0) :: st) h := e_iconst dX5_init_157 kiconst_0 rfl
theorem wX5_init_158 : E_ d mX5_init 158 ls st h = E_ d mX5_init 159 ls (.int ((-1)) :: st) h := e_iconst dX5_init_158 kiconst_m1 rfl
theorem wX5_init_159 (ht : oT h a = 40) (hi : xix x (oN h a) = true) : E_ d mX5_init 159 ls (.int y :: .int x :: .ref a :: st) h = E_ d mX5_init 160 ls st (pI h a (va_up (oI h a) x.toNatClampNeg y)) := e_iast dX5_init_159 rfl ht hi
theorem wX5_init_160 : E_ d mX5_init 160 ls (.ref a :: st) h = E_ d mX5_init 161 ls (.ref a :: .ref a :: st) h := e_go dX5_init_160 rfl rfl
theorem wX5_init_161 : E_ d mX5_init 161 ls st h = E_ d mX5_init 162 ls (.int (nI 1) :: st) h := e_iconst dX5_init_161 kiconst_1 rfl
theorem wX5_init_162 : E_ d mX5_init 162 ls st h = E_ d mX5_init 163 ls (.int ((-1)) :: st) h := e_iconst dX5_init_162 kiconst_m1 rfl
theorem wX5_init_163 (ht : oT h a = 40) (hi : xix x (oN h a) = true) : E_ d mX5_init 163 ls (.int y :: .int x :: .ref a :: st) h = E_ d mX5_init 164 ls st (pI h a (va_up (oI h a) x.toNatClampNeg y)) := e_iast dX5_init_163 rfl ht hi
theorem wX5_init_164 : E_ d mX5_init 164 ls (.ref a :: st) h = E_ d mX5_init 165 ls (.ref a :: .ref a :: st) h := e_go dX5_init_164 rfl rfl
theorem wX5_init_165 : E_ d mX5_init 165 ls st h = E_ d mX5_init 166 ls (.int (nI 2) :: st) h := e_iconst dX5_init_165 kiconst_2 rfl
theorem wX5_init_166 : E_ d mX5_init 166 ls st h = E_ d mX5_init 167 ls (.int ((-1)) :: st) h := e_iconst dX5_init_166 kiconst_m1 rfl
theorem wX5_init_167 (ht : oT h a = 40) (hi : xix x (oN h a) = true) : E_ d mX5_init 167 ls (.int y :: .int x :: .ref a :: st) h = E_ d mX5_init 168 ls st (pI h a (va_up (oI h a) x.toNatClampNeg y)) := e_iast dX5_init_167 rfl ht hi
theorem wX5_init_168 : E_ d mX5_init 168 ls (.ref a :: st) h = E_ d mX5_init 169 ls (.ref a :: .ref a :: st) h := e_go dX5_init_168 rfl rfl
theorem wX5_init_169 : E_ d mX5_init 169 ls st h = E_ d mX5_init 170 ls (.int (nI 3) :: st) h := e_iconst dX5_init_169 kiconst_3 rfl
theorem wX5_init_170 : E_ d mX5_init 170 ls st h = E_ d mX5_init 171 ls (.int ((-1)) :: st) h := e_iconst dX5_init_170 kiconst_m1 rfl
theorem wX5_init_171 (ht : oT h a = 40) (hi : xix x (oN h a) = true) : E_ d mX5_init 171 ls (.int y :: .int x :: .ref a :: st) h = E_ d mX5_init 172 ls st (pI h a (va_up (oI h a) x.toNatClampNeg y)) := e_iast dX5_init_171 rfl ht hi
theorem wX5_init_172 (ht : oT h a = 7) : E_ d mX5_init 172 ls (.ref b :: .ref a :: st) h = E_ d mX5_init 175 ls st (pR h a (va_up (oR h a) 33 (some b))) := e_putR0 dX5_init_172 rfl rfl rfl ht
theorem wX5_init_172q (ht : oT h a = 7) : E_ d mX5_init 172 ls (va_rf q :: .ref a :: st) h = E_ d mX5_init 175 ls st (pR h a (va_up (oR h a) 33 q)) := e_putR0q dX5_init_172 rfl rfl rfl ht
theorem wX5_init_175 : E_ d mX5_init 175 [.val (.ref a), s1] st h = E_ d mX5_init 176 [.val (.ref a), s1] (.ref a :: st) h := e_go dX5_init_175 rfl rfl
theorem wX5_init_176 : E_ d mX5_init 176 ls st h = E_ d mX5_init 177 ls (.int (nI 4) :: st) h := e_iconst dX5_init_176 kiconst_4 rfl
theorem wX5_init_177 (h0 : 0 ≤ x.toInt) (h1 : x.toInt ≤ 65536) : E_ d mX5_init 177 ls (.int x :: st) h = E_ d mX5_init 179 ls (.ref (oX h) :: st) (pO h 40 x.toNatClampNeg) := e_newa dX5_init_177 rfl rfl h0 h1
theorem wX5_init_179 (ht : oT h a = 7) : E_ d mX5_init 179 ls (.ref b :: .ref a :: st) h = E_ d mX5_init 182 ls st (pR h a (va_up (oR h a) 34 (some b))) := e_putR0 dX5_init_179 rfl rfl rfl ht
theorem wX5_init_179q (ht : oT h a = 7) : E_ d mX5_init 179 ls (va_rf q :: .ref a :: st) h = E_ d mX5_init 182 ls st (pR h a (va_up (oR h a) 34 q)) := e_putR0q dX5_init_179 rfl rfl rfl ht
theorem wX5_init_182 : E_ d mX5_init 182 [.val (.ref a), s1] st h = E_ d mX5_init 183 [.val (.ref a), s1] (.ref a :: st) h := e_go dX5_init_182 rfl rfl
theorem wX5_init_183 : E_ d mX5_init 183 ls st h = E_ d mX5_init 186 ls (.int (nI 160) :: st) h := e_sipush dX5_init_183 ksipush_160 rfl
theorem wX5_init_186 (h0 : 0 ≤ x.toInt) (h1 : x.toInt ≤ 65536) : E_ d mX5_init 186 ls (.int x :: st) h = E_ d mX5_init 188 ls (.ref (oX h) :: st) (pO h 44 x.toNatClampNeg) := e_newa dX5_init_186 rfl rfl h0 h1
theorem wX5_init_188 (ht : oT h a = 7) : E_ d mX5_init 188 ls (.ref b :: .ref a :: st) h = E_ d mX5_init 191 ls st (pR h a (va_up (oR h a) 35 (some b))) := e_putR0 dX5_init_188 rfl rfl rfl ht
theorem wX5_init_188q (ht : oT h a = 7) : E_ d mX5_init 188 ls (va_rf q :: .ref a :: st) h = E_ d mX5_init 191 ls st (pR h a (va_up (oR h a) 35 q)) := e_putR0q dX5_init_188 rfl rfl rfl ht
theorem wX5_init_191 : E_ d mX5_init 191 [.val (.ref a), s1] st h = E_ d mX5_init 192 [.val (.ref a), s1] (.ref a :: st) h := e_go dX5_init_191 rfl rfl
theorem wX5_init_192 (ht : oT h a = 7) : E_ d mX5_init 192 ls (.ref a :: st) h = E_ d mX5_init 195 ls (va_rf (oR h a 2) :: st) h := e_getR0 dX5_init_192 rfl rfl ht
theorem wX5_init_195 : E_ (d + 1) mX5_init 195 ls [.ref r1] h = (C_ d mX5_plain [.ref r1] h).bind fun r => E_ (d + 1) mX5_init 198 ls (xpu r.1 []) r.2 := e_call dX5_init_195 rfl rfl
theorem wX5_init_198 : E_ d mX5_init 198 ls st h = E_ d mX5_init 199 ls (.int (nI 0) :: st) h := e_iconst dX5_init_198 kiconst_0 rfl
theorem wX5_init_199 : E_ d mX5_init 199 [s0, s1] (.int x :: st) h = E_ d mX5_init 200 [xk s0, .val (.int x)] st h := e_go dX5_init_199 rfl rfl
theorem wX5_init_200 : E_ d mX5_init 200 [s0, .val (.int x)] st h = E_ d mX5_init 201 [s0, .val (.int x)] (.int x :: st) h := e_go dX5_init_200 rfl rfl
theorem wX5_init_201 : E_ d mX5_init 201 ls st h = E_ d mX5_init 202 ls (.int (nI 4) :: st) h := e_iconst dX5_init_201 kiconst_4 rfl
theorem wX5_init_202 : E_ d mX5_init 202 ls (.int y :: .int x :: st) h = if x < y then E_ d mX5_init 205 ls st h else E_ d mX5_init 234 ls st h := e_ige dX5_init_202 rfl rfl
theorem wX5_init_205 : E_ d mX5_init 205 [.val (.ref a), s1] st h = E_ d mX5_init 206 [.val (.ref a), s1] (.ref a :: st) h := e_go dX5_init_205 rfl rfl
theorem wX5_init_206 (ht : oT h a = 7) : E_ d mX5_init 206 ls (.ref a :: st) h = E_ d mX5_init 209 ls (va_rf (oR h a 2) :: st) h := e_getR0 dX5_init_206 rfl rfl ht
theorem wX5_init_209 : E_ d mX5_init 209 ls st h = E_ d mX5_init 212 ls (.int (nI 550) :: st) h := e_sipush dX5_init_209 ksipush_550 rfl
theorem wX5_init_212 : E_ d mX5_init 212 [s0, .val (.int x)] st h = E_ d mX5_init 213 [s0, .val (.int x)] (.int x :: st) h := e_go dX5_init_212 rfl rfl
theorem wX5_init_213 : E_ d mX5_init 213 ls (.int y :: .int x :: st) h = E_ d mX5_init 214 ls (.int (x + y) :: st) h := e_go dX5_init_213 rfl rfl
theorem wX5_init_214 : E_ d mX5_init 214 ls st h = E_ d mX5_init 215 ls (.int (nI 1) :: st) h := e_iconst dX5_init_214 kiconst_1 rfl
theorem wX5_init_215 (ht : oT h a = 40) (hi : xix x (oN h a) = true) : E_ d mX5_init 215 ls (.int y :: .int x :: .ref a :: st) h = E_ d mX5_init 216 ls st (pI h a (va_up (oI h a) x.toNatClampNeg y)) := e_iast dX5_init_215 rfl ht hi
theorem wX5_init_216 : E_ d mX5_init 216 [.val (.ref a), s1] st h = E_ d mX5_init 217 [.val (.ref a), s1] (.ref a :: st) h := e_go dX5_init_216 rfl rfl
theorem wX5_init_217 (ht : oT h a = 7) : E_ d mX5_init 217 ls (.ref a :: st) h = E_ d mX5_init 220 ls (va_rf (oR h a 2) :: st) h := e_getR0 dX5_init_217 rfl rfl ht
theorem wX5_init_220 : E_ d mX5_init 220 ls st h = E_ d mX5_init 223 ls (.int (nI 554) :: st) h := e_sipush dX5_init_220 ksipush_554 rfl
theorem wX5_init_223 : E_ d mX5_init 223 [s0, .val (.int x)] st h = E_ d mX5_init 224 [s0, .val (.int x)] (.int x :: st) h := e_go dX5_init_223 rfl rfl
theorem wX5_init_224 : E_ d mX5_init 224 ls (.int y :: .int x :: st) h = E_ d mX5_init 225 ls (.int (x + y) :: st) h := e_go dX5_init_224 rfl rfl
theorem wX5_init_225 : E_ d mX5_init 225 ls st h = E_ d mX5_init 227 ls (.int (nI 100) :: st) h := e_bipush dX5_init_225 kbipush_100 rfl
theorem wX5_init_227 (ht : oT h a = 40) (hi : xix x (oN h a) = true) : E_ d mX5_init 227 ls (.int y :: .int x :: .ref a :: st) h = E_ d mX5_init 228 ls st (pI h a (va_up (oI h a) x.toNatClampNeg y)) := e_iast dX5_init_227 rfl ht hi
theorem wX5_init_228 : E_ d mX5_init 228 [s0, .val (.int x)] st h = E_ d mX5_init 231 [xk s0, .val (.int (x + nI 1))] st h := by rw [← kiinc_1]; exact e_go dX5_init_228 rfl rfl
theorem wX5_init_231 : E_ d mX5_init 231 ls st h = E_ d mX5_init 200 ls st h := e_gt dX5_init_231 rfl
theorem wX5_init_234 : E_ d mX5_init 234 ls [] h = some (none, h) := e_rt dX5_init_234 rfl rfl
/-! FootOutModel.plain -/
theorem wX5_plain_0 : E_ d mX5_plain 0 ls st h = E_ d mX5_plain 1 ls (.int (nI 0) :: st) h := e_iconst dX5_plain_0 kiconst_0 rfl
theorem wX5_plain_1 : E_ d mX5_plain 1 [s0, s1] (.int x :: st) h = E_ d mX5_plain 2 [xk s0, .val (.int x)] st h := e_go dX5_plain_1 rfl rfl
theorem wX5_plain_2 : E_ d mX5_plain 2 [s0, .val (.int x)] st h = E_ d mX5_plain 3 [s0, .val (.int x)] (.int x :: st) h := e_go dX5_plain_2 rfl rfl
theorem wX5_plain_3 : E_ d mX5_plain 3 ls st h = E_ d mX5_plain 6 ls (.int (nI 477) :: st) h := e_sipush dX5_plain_3 ksipush_477 rfl
theorem wX5_plain_6 : E_ d mX5_plain 6 ls (.int y :: .int x :: st) h = if x < y then E_ d mX5_plain 9 ls st h else E_ d mX5_plain 59 ls st h := e_ige dX5_plain_6 rfl rfl
theorem wX5_plain_9 : E_ d mX5_plain 9 [.val (.ref a), s1] st h = E_ d mX5_plain 10 [.val (.ref a), s1] (.ref a :: st) h := e_go dX5_plain_9 rfl rfl
theorem wX5_plain_10 : E_ d mX5_plain 10 [s0, .val (.int x)] st h = E_ d mX5_plain 11 [s0, .val (.int x)] (.int x :: st) h := e_go dX5_plain_10 rfl rfl
theorem wX5_plain_11 : E_ d mX5_plain 11 [s0, .val (.int x)] st h = E_ d mX5_plain 12 [s0, .val (.int x)] (.int x :: st) h := e_go dX5_plain_11 rfl rfl
theorem wX5_plain_12 : E_ d mX5_plain 12 ls (.int x :: st) h = if x = 0 then E_ d mX5_plain 15 ls st h else E_ d mX5_plain 19 ls st h := e_zne dX5_plain_12 rfl rfl
theorem wX5_plain_15 : E_ d mX5_plain 15 ls st h = E_ d mX5_plain 16 ls (.int (nI 1) :: st) h := e_iconst dX5_plain_15 kiconst_1 rfl
theorem wX5_plain_16 : E_ d mX5_plain 16 ls st h = E_ d mX5_plain 52 ls st h := e_gt dX5_plain_16 rfl
theorem wX5_plain_19 : E_ d mX5_plain 19 [s0, .val (.int x)] st h = E_ d mX5_plain 20 [s0, .val (.int x)] (.int x :: st) h := e_go dX5_plain_19 rfl rfl
theorem wX5_plain_20 : E_ d mX5_plain 20 ls st h = E_ d mX5_plain 22 ls (.int (nI 36) :: st) h := e_bipush dX5_plain_20 kbipush_36 rfl
theorem wX5_plain_22 : E_ d mX5_plain 22 ls (.int y :: .int x :: st) h = if x = y then E_ d mX5_plain 25 ls st h else E_ d mX5_plain 29 ls st h := e_ine dX5_plain_22 rfl rfl
theorem wX5_plain_25 : E_ d mX5_plain 25 ls st h = E_ d mX5_plain 26 ls (.int (nI 3) :: st) h := e_iconst dX5_plain_25 kiconst_3 rfl
theorem wX5_plain_26 : E_ d mX5_plain 26 ls st h = E_ d mX5_plain 52 ls st h := e_gt dX5_plain_26 rfl
theorem wX5_plain_29 : E_ d mX5_plain 29 [s0, .val (.int x)] st h = E_ d mX5_plain 30 [s0, .val (.int x)] (.int x :: st) h := e_go dX5_plain_29 rfl rfl
theorem wX5_plain_30 : E_ d mX5_plain 30 ls st h = E_ d mX5_plain 32 ls (.int (nI 37) :: st) h := e_bipush dX5_plain_30 kbipush_37 rfl
theorem wX5_plain_32 : E_ d mX5_plain 32 ls (.int y :: .int x :: st) h = if x = y then E_ d mX5_plain 35 ls st h else E_ d mX5_plain 40 ls st h := e_ine dX5_plain_32 rfl rfl
theorem wX5_plain_35 : E_ d mX5_plain 35 ls st h = E_ d mX5_plain 37 ls (.int (nI 20) :: st) h := e_bipush dX5_plain_35 kbipush_20 rfl
theorem wX5_plain_37 : E_ d mX5_plain 37 ls st h = E_ d mX5_plain 52 ls st h := e_gt dX5_plain_37 rfl
theorem wX5_plain_40 : E_ d mX5_plain 40 [s0, .val (.int x)] st h = E_ d mX5_plain 41 [s0, .val (.int x)] (.int x :: st) h := e_go dX5_plain_40 rfl rfl
theorem wX5_plain_41 : E_ d mX5_plain 41 ls st h = E_ d mX5_plain 43 ls (.int (nI 38) :: st) h := e_bipush dX5_plain_41 kbipush_38 rfl
theorem wX5_plain_43 : E_ d mX5_plain 43 ls (.int y :: .int x :: st) h = if x = y then E_ d mX5_plain 46 ls st h else E_ d mX5_plain 51 ls st h := e_ine dX5_plain_43 rfl rfl
theorem wX5_plain_46 : E_ d mX5_plain 46 ls st h = E_ d mX5_plain 48 ls (.int (nI 40) :: st) h := e_bipush dX5_plain_46 kbipush_40 rfl
theorem wX5_plain_48 : E_ d mX5_plain 48 ls st h = E_ d mX5_plain 52 ls st h := e_gt dX5_plain_48 rfl
theorem wX5_plain_51 : E_ d mX5_plain 51 ls st h = E_ d mX5_plain 52 ls (.int (nI 0) :: st) h := e_iconst dX5_plain_51 kiconst_0 rfl
theorem wX5_plain_52 (ht : oT h a = 40) (hi : xix x (oN h a) = true) : E_ d mX5_plain 52 ls (.int y :: .int x :: .ref a :: st) h = E_ d mX5_plain 53 ls st (pI h a (va_up (oI h a) x.toNatClampNeg y)) := e_iast dX5_plain_52 rfl ht hi
theorem wX5_plain_53 : E_ d mX5_plain 53 [s0, .val (.int x)] st h = E_ d mX5_plain 56 [xk s0, .val (.int (x + nI 1))] st h := by rw [← kiinc_1]; exact e_go dX5_plain_53 rfl rfl
theorem wX5_plain_56 : E_ d mX5_plain 56 ls st h = E_ d mX5_plain 2 ls st h := e_gt dX5_plain_56 rfl
theorem wX5_plain_59 : E_ d mX5_plain 59 ls [] h = some (none, h) := e_rt dX5_plain_59 rfl rfl
/-! FootOutModel.feed -/
theorem wX5_feed_0 : E_ d mX5_feed 0 [.val (.ref a), s1, s2, s3, s4, s5, s6, s7] st h = E_ d mX5_feed 1 [.val (.ref a), s1, s2, s3, s4, s5, s6, s7] (.ref a :: st) h := e_go dX5_feed_0 rfl rfl
theorem wX5_feed_1 : E_ d mX5_feed 1 ls st h = E_ d mX5_feed 2 ls (.int (nI 0) :: st) h := e_iconst dX5_feed_1 kiconst_0 rfl
theorem wX5_feed_2 (ht : oT h a = 7) : E_ d mX5_feed 2 ls (.int x :: .ref a :: st) h = E_ d mX5_feed 5 ls st (pI h a (va_up (oI h a) 0 x)) := e_putI dX5_feed_2 rfl rfl ht
theorem wX5_feed_5 : E_ d mX5_feed 5 [.val (.ref a), s1, s2, s3, s4, s5, s6, s7] st h = E_ d mX5_feed 6 [.val (.ref a), s1, s2, s3, s4, s5, s6, s7] (.ref a :: st) h := e_go dX5_feed_5 rfl rfl
theorem wX5_feed_6 (ht : oT h a = 7) : E_ d mX5_feed 6 ls (.ref a :: st) h = E_ d mX5_feed 9 ls (.int (oI h a 6) :: st) h := e_getI dX5_feed_6 rfl rfl ht
theorem wX5_feed_9 : E_ d mX5_feed 9 ls st h = E_ d mX5_feed 11 ls (.int (nI 20) :: st) h := e_bipush dX5_feed_9 kbipush_20 rfl
theorem wX5_feed_11 : E_ d mX5_feed 11 ls (.int y :: .int x :: st) h = E_ d mX5_feed 12 ls (.int (x + y) :: st) h := e_go dX5_feed_11 rfl rfl
theorem wX5_feed_12 : E_ d mX5_feed 12 ls st h = E_ d mX5_feed 15 ls (.int (nI 400) :: st) h := e_sipush dX5_feed_12 ksipush_400 rfl
theorem wX5_feed_15 : E_ d mX5_feed 15 ls (.int y :: .int x :: st) h = if y < x then E_ d mX5_feed 18 ls st h else E_ d mX5_feed 25 ls st h := e_ile dX5_feed_15 rfl rfl
theorem wX5_feed_18 : E_ d mX5_feed 18 [.val (.ref a), s1, s2, s3, s4, s5, s6, s7] st h = E_ d mX5_feed 19 [.val (.ref a), s1, s2, s3, s4, s5, s6, s7] (.ref a :: st) h := e_go dX5_feed_18 rfl rfl
theorem wX5_feed_19 : E_ d mX5_feed 19 ls st h = E_ d mX5_feed 21 ls (.int ((-5)) :: st) h := e_bipush dX5_feed_19 kbipush_m5 rfl
theorem wX5_feed_21 (ht : oT h a = 7) : E_ (d + 1) mX5_feed 21 ls [.int x1, .ref a] h = (C_ d mX5_no [.ref a, .int x1] h).bind fun r => E_ (d + 1) mX5_feed 24 ls (xpu r.1 []) r.2 := e_vir dX5_feed_21 rfl rfl rfl rfl rfl rfl (Nat.le_of_ble_eq_true rfl) (Nat.le_of_ble_eq_true rfl) ht
theorem wX5_feed_24 : E_ d mX5_feed 24 ls [.int x] h = some (some (.int x), h) := e_rt dX5_feed_24 rfl rfl
theorem wX5_feed_25 : E_ d mX5_feed 25 ls st h = E_ d mX5_feed 26 ls (.int (nI 0) :: st) h := e_iconst dX5_feed_25 kiconst_0 rfl
theorem wX5_feed_26 : E_ d mX5_feed 26 [s0, s1, s2, s3, s4, s5, s6, s7] (.int x :: st) h = E_ d mX5_feed 28 [s0, s1, s2, s3, s4, xk s5, .val (.int x), s7] st h := e_go dX5_feed_26 rfl rfl
theorem wX5_feed_28 : E_ d mX5_feed 28 [s0, s1, s2, s3, s4, s5, .val (.int x), s7] st h = E_ d mX5_feed 30 [s0, s1, s2, s3, s4, s5, .val (.int x), s7] (.int x :: st) h := e_go dX5_feed_28 rfl rfl
theorem wX5_feed_30 : E_ d mX5_feed 30 ls st h = E_ d mX5_feed 32 ls (.int (nI 20) :: st) h := e_bipush dX5_feed_30 kbipush_20 rfl
theorem wX5_feed_32 : E_ d mX5_feed 32 ls (.int y :: .int x :: st) h = if x < y then E_ d mX5_feed 35 ls st h else E_ d mX5_feed 125 ls st h := e_ige dX5_feed_32 rfl rfl
theorem wX5_feed_35 : E_ d mX5_feed 35 [s0, s1, s2, s3, s4, s5, .val (.int x), s7] st h = E_ d mX5_feed 37 [s0, s1, s2, s3, s4, s5, .val (.int x), s7] (.int x :: st) h := e_go dX5_feed_35 rfl rfl
theorem wX5_feed_37 : E_ d mX5_feed 37 ls st h = E_ d mX5_feed 38 ls (.int (nI 4) :: st) h := e_iconst dX5_feed_37 kiconst_4 rfl
theorem wX5_feed_38 : E_ d mX5_feed 38 ls (.int y :: .int x :: st) h = if x < y then E_ d mX5_feed 41 ls st h else E_ d mX5_feed 45 ls st h := e_ige dX5_feed_38 rfl rfl
theorem wX5_feed_41 : E_ d mX5_feed 41 [s0, .val (.int x), s2, s3, s4, s5, s6, s7] st h = E_ d mX5_feed 42 [s0, .val (.int x), s2, s3, s4, s5, s6, s7] (.int x :: st) h := e_go dX5_feed_41 rfl rfl
theorem wX5_feed_42 : E_ d mX5_feed 42 ls st h = E_ d mX5_feed 81 ls st h := e_gt dX5_feed_42 rfl
theorem wX5_feed_45 : E_ d mX5_feed 45 [s0, s1, s2, s3, s4, s5, .val (.int x), s7] st h = E_ d mX5_feed 47 [s0, s1, s2, s3, s4, s5, .val (.int x), s7] (.int x :: st) h := e_go dX5_feed_45 rfl rfl
theorem wX5_feed_47 : E_ d mX5_feed 47 ls st h = E_ d mX5_feed 49 ls (.int (nI 8) :: st) h := e_bipush dX5_feed_47 kbipush_8 rfl
theorem wX5_feed_49 : E_ d mX5_feed 49 ls (.int y :: .int x :: st) h = if x < y then E_ d mX5_feed 52 ls st h else E_ d mX5_feed 56 ls st h := e_ige dX5_feed_49 rfl rfl
theorem wX5_feed_52 : E_ d mX5_feed 52 [s0, s1, .val (.int x), s3, s4, s5, s6, s7] st h = E_ d mX5_feed 53 [s0, s1, .val (.int x), s3, s4, s5, s6, s7] (.int x :: st) h := e_go dX5_feed_52 rfl rfl
theorem wX5_feed_53 : E_ d mX5_feed 53 ls st h = E_ d mX5_feed 81 ls st h := e_gt dX5_feed_53 rfl
theorem wX5_feed_56 : E_ d mX5_feed 56 [s0, s1, s2, s3, s4, s5, .val (.int x), s7] st h = E_ d mX5_feed 58 [s0, s1, s2, s3, s4, s5, .val (.int x), s7] (.int x :: st) h := e_go dX5_feed_56 rfl rfl
theorem wX5_feed_58 : E_ d mX5_feed 58 ls st h = E_ d mX5_feed 60 ls (.int (nI 12) :: st) h := e_bipush dX5_feed_58 kbipush_12 rfl
theorem wX5_feed_60 : E_ d mX5_feed 60 ls (.int y :: .int x :: st) h = if x < y then E_ d mX5_feed 63 ls st h else E_ d mX5_feed 67 ls st h := e_ige dX5_feed_60 rfl rfl
theorem wX5_feed_63 : E_ d mX5_feed 63 [s0, s1, s2, .val (.int x), s4, s5, s6, s7] st h = E_ d mX5_feed 64 [s0, s1, s2, .val (.int x), s4, s5, s6, s7] (.int x :: st) h := e_go dX5_feed_63 rfl rfl
theorem wX5_feed_64 : E_ d mX5_feed 64 ls st h = E_ d mX5_feed 81 ls st h := e_gt dX5_feed_64 rfl
theorem wX5_feed_67 : E_ d mX5_feed 67 [s0, s1, s2, s3, s4, s5, .val (.int x), s7] st h = E_ d mX5_feed 69 [s0, s1, s2, s3, s4, s5, .val (.int x), s7] (.int x :: st) h := e_go dX5_feed_67 rfl rfl
theorem wX5_feed_69 : E_ d mX5_feed 69 ls st h = E_ d mX5_feed 71 ls (.int (nI 16) :: st) h := e_bipush dX5_feed_69 kbipush_16 rfl
theorem wX5_feed_71 : E_ d mX5_feed 71 ls (.int y :: .int x :: st) h = if x < y then E_ d mX5_feed 74 ls st h else E_ d mX5_feed 79 ls st h := e_ige dX5_feed_71 rfl rfl
theorem wX5_feed_74 : E_ d mX5_feed 74 [s0, s1, s2, s3, .val (.int x), s5, s6, s7] st h = E_ d mX5_feed 76 [s0, s1, s2, s3, .val (.int x), s5, s6, s7] (.int x :: st) h := e_go dX5_feed_74 rfl rfl
theorem wX5_feed_76 : E_ d mX5_feed 76 ls st h = E_ d mX5_feed 81 ls st h := e_gt dX5_feed_76 rfl
theorem wX5_feed_79 : E_ d mX5_feed 79 [s0, s1, s2, s3, s4, .val (.int x), s6, s7] st h = E_ d mX5_feed 81 [s0, s1, s2, s3, s4, .val (.int x), s6, s7] (.int x :: st) h := e_go dX5_feed_79 rfl rfl
theorem wX5_feed_81 : E_ d mX5_feed 81 [s0, s1, s2, s3, s4, s5, s6, s7] (.int x :: st) h = E_ d mX5_feed 83 [s0, s1, s2, s3, s4, s5, xk s6, .val (.int x)] st h := e_go dX5_feed_81 rfl rfl
theorem wX5_feed_83 : E_ d mX5_feed 83 [.val (.ref a), s1, s2, s3, s4, s5, s6, s7] st h = E_ d mX5_feed 84 [.val (.ref a), s1, s2, s3, s4, s5, s6, s7] (.ref a :: st) h := e_go dX5_feed_83 rfl rfl
theorem wX5_feed_84 (ht : oT h a = 7) : E_ d mX5_feed 84 ls (.ref a :: st) h = E_ d mX5_feed 87 ls (va_rf (oR h a 4) :: st) h := e_getR0 dX5_feed_84 rfl rfl ht
theorem wX5_feed_87 : E_ d mX5_feed 87 [.val (.ref a), s1, s2, s3, s4, s5, s6, s7] st h = E_ d mX5_feed 88 [.val (.ref a), s1, s2, s3, s4, s5, s6, s7] (.ref a :: st) h := e_go dX5_feed_87 rfl rfl
theorem wX5_feed_88 (ht : oT h a = 7) : E_ d mX5_feed 88 ls (.ref a :: st) h = E_ d mX5_feed 91 ls (.int (oI h a 6) :: st) h := e_getI dX5_feed_88 rfl rfl ht
theorem wX5_feed_91 : E_ d mX5_feed 91 [s0, s1, s2, s3, s4, s5, s6, .val (.int x)] st h = E_ d mX5_feed 93 [s0, s1, s2, s3, s4, s5, s6, .val (.int x)] (.int x :: st) h := e_go dX5_feed_91 rfl rfl
theorem wX5_feed_93 : E_ d mX5_feed 93 ls st h = E_ d mX5_feed 95 ls (.int (nI 24) :: st) h := e_bipush dX5_feed_93 kbipush_24 rfl
theorem wX5_feed_95 : E_ d mX5_feed 95 ls st h = E_ d mX5_feed 97 ls (.int (nI 8) :: st) h := e_bipush dX5_feed_95 kbipush_8 rfl
theorem wX5_feed_97 : E_ d mX5_feed 97 [s0, s1, s2, s3, s4, s5, .val (.int x), s7] st h = E_ d mX5_feed 99 [s0, s1, s2, s3, s4, s5, .val (.int x), s7] (.int x :: st) h := e_go dX5_feed_97 rfl rfl
theorem wX5_feed_99 : E_ d mX5_feed 99 ls st h = E_ d mX5_feed 100 ls (.int (nI 4) :: st) h := e_iconst dX5_feed_99 kiconst_4 rfl
theorem wX5_feed_100 (hy : ¬ y = 0) : E_ d mX5_feed 100 ls (.int y :: .int x :: st) h = E_ d mX5_feed 101 ls (.int (x - x / y * y) :: st) h := e_rem dX5_feed_100 rfl hy
theorem wX5_feed_101 : E_ d mX5_feed 101 ls (.int y :: .int x :: st) h = E_ d mX5_feed 102 ls (.int (x * y) :: st) h := e_go dX5_feed_101 rfl rfl
theorem wX5_feed_102 : E_ d mX5_feed 102 ls (.int y :: .int x :: st) h = E_ d mX5_feed 103 ls (.int (x - y) :: st) h := e_go dX5_feed_102 rfl rfl
theorem wX5_feed_103 : E_ d mX5_feed 103 ls (.int y :: .int x :: st) h = E_ d mX5_feed 104 ls (.int (x >>> (y &&& 31)) :: st) h := e_go dX5_feed_103 rfl rfl
theorem wX5_feed_104 : E_ d mX5_feed 104 ls st h = E_ d mX5_feed 107 ls (.int (nI 255) :: st) h := e_sipush dX5_feed_104 ksipush_255 rfl
theorem wX5_feed_107 : E_ d mX5_feed 107 ls (.int y :: .int x :: st) h = E_ d mX5_feed 108 ls (.int (x &&& y) :: st) h := e_go dX5_feed_107 rfl rfl
theorem wX5_feed_108 (ht : oT h a = 40) (hi : xix x (oN h a) = true) : E_ d mX5_feed 108 ls (.int y :: .int x :: .ref a :: st) h = E_ d mX5_feed 109 ls st (pI h a (va_up (oI h a) x.toNatClampNeg y)) := e_iast dX5_feed_108 rfl ht hi
theorem wX5_feed_109 : E_ d mX5_feed 109 [.val (.ref a), s1, s2, s3, s4, s5, s6, s7] st h = E_ d mX5_feed 110 [.val (.ref a), s1, s2, s3, s4, s5, s6, s7] (.ref a :: st) h := e_go dX5_feed_109 rfl rfl
theorem wX5_feed_110 : E_ d mX5_feed 110 ls (.ref a :: st) h = E_ d mX5_feed 111 ls (.ref a :: .ref a :: st) h := e_go dX5_feed_110 rfl rfl
theorem wX5_feed_111 (ht : oT h a = 7) : E_ d mX5_feed 111 ls (.ref a :: st) h = E_ d mX5_feed 114 ls (.int (oI h a 6) :: st) h := e_getI dX5_feed_111 rfl rfl ht
theorem wX5_feed_114 : E_ d mX5_feed 114 ls st h = E_ d mX5_feed 115 ls (.int (nI 1) :: st) h := e_iconst dX5_feed_114 kiconst_1 rfl
theorem wX5_feed_115 : E_ d mX5_feed 115 ls (.int y :: .int x :: st) h = E_ d mX5_feed 116 ls (.int (x + y) :: st) h := e_go dX5_feed_115 rfl rfl
theorem wX5_feed_116 (ht : oT h a = 7) : E_ d mX5_feed 116 ls (.int x :: .ref a :: st) h = E_ d mX5_feed 119 ls st (pI h a (va_up (oI h a) 6 x)) := e_putI dX5_feed_116 rfl rfl ht
theorem wX5_feed_119 : E_ d mX5_feed 119 [s0, s1, s2, s3, s4, s5, .val (.int x), s7] st h = E_ d mX5_feed 122 [s0, s1, s2, s3, s4, xk s5, .val (.int (x + nI 1)), s7] st h := by rw [← kiinc_1]; exact e_go dX5_feed_119 rfl rfl
theorem wX5_feed_122 : E_ d mX5_feed 122 ls st h = E_ d mX5_feed 28 ls st h := e_gt dX5_feed_122 rfl
theorem wX5_feed_125 : E_ d mX5_feed 125 [.val (.ref a), s1, s2, s3, s4, s5, s6, s7] st h = E_ d mX5_feed 126 [.val (.ref a), s1, s2, s3, s4, s5, s6, s7] (.ref a :: st) h := e_go dX5_feed_125 rfl rfl
theorem wX5_feed_126 (ht : oT h a = 7) : E_ d mX5_feed 126 ls (.ref a :: st) h = E_ d mX5_feed 129 ls (.int (oI h a 6) :: st) h := e_getI dX5_feed_126 rfl rfl ht
theorem wX5_feed_129 : E_ d mX5_feed 129 ls [.int x] h = some (some (.int x), h) := e_rt dX5_feed_129 rfl rfl
/-! FootOutModel.no -/
theorem wX5_no_0 : E_ d mX5_no 0 [.val (.ref a), s1] st h = E_ d mX5_no 1 [.val (.ref a), s1] (.ref a :: st) h := e_go dX5_no_0 rfl rfl
theorem wX5_no_1 (ht : oT h a = 7) : E_ d mX5_no 1 ls (.ref a :: st) h = E_ d mX5_no 4 ls (va_rf (oR h a 1) :: st) h := e_getR0 dX5_no_1 rfl rfl ht
theorem wX5_no_4 : E_ d mX5_no 4 [s0, .val (.int x)] st h = E_ d mX5_no 5 [s0, .val (.int x)] (.int x :: st) h := e_go dX5_no_4 rfl rfl
theorem wX5_no_5 : E_ d mX5_no 5 ls st h = E_ d mX5_no 7 ls (.int ((-2)) :: st) h := e_bipush dX5_no_5 kbipush_m2 rfl
theorem wX5_no_7 : E_ d mX5_no 7 ls (.int y :: .int x :: st) h = if x = y then E_ d mX5_no 10 ls st h else E_ d mX5_no 14 ls st h := e_ine dX5_no_7 rfl rfl
theorem wX5_no_10 : E_ d mX5_no 10 ls st h = E_ d mX5_no 11 ls (.int (nI 0) :: st) h := e_iconst dX5_no_10 kiconst_0 rfl
theorem wX5_no_11 : E_ d mX5_no 11 ls st h = E_ d mX5_no 55 ls st h := e_gt dX5_no_11 rfl
theorem wX5_no_14 : E_ d mX5_no 14 [s0, .val (.int x)] st h = E_ d mX5_no 15 [s0, .val (.int x)] (.int x :: st) h := e_go dX5_no_14 rfl rfl
theorem wX5_no_15 : E_ d mX5_no 15 ls st h = E_ d mX5_no 17 ls (.int ((-3)) :: st) h := e_bipush dX5_no_15 kbipush_m3 rfl
theorem wX5_no_17 : E_ d mX5_no 17 ls (.int y :: .int x :: st) h = if x = y then E_ d mX5_no 20 ls st h else E_ d mX5_no 24 ls st h := e_ine dX5_no_17 rfl rfl
theorem wX5_no_20 : E_ d mX5_no 20 ls st h = E_ d mX5_no 21 ls (.int (nI 1) :: st) h := e_iconst dX5_no_20 kiconst_1 rfl
theorem wX5_no_21 : E_ d mX5_no 21 ls st h = E_ d mX5_no 55 ls st h := e_gt dX5_no_21 rfl
theorem wX5_no_24 : E_ d mX5_no 24 [s0, .val (.int x)] st h = E_ d mX5_no 25 [s0, .val (.int x)] (.int x :: st) h := e_go dX5_no_24 rfl rfl
theorem wX5_no_25 : E_ d mX5_no 25 ls st h = E_ d mX5_no 27 ls (.int ((-5)) :: st) h := e_bipush dX5_no_25 kbipush_m5 rfl
theorem wX5_no_27 : E_ d mX5_no 27 ls (.int y :: .int x :: st) h = if x = y then E_ d mX5_no 30 ls st h else E_ d mX5_no 34 ls st h := e_ine dX5_no_27 rfl rfl
theorem wX5_no_30 : E_ d mX5_no 30 ls st h = E_ d mX5_no 31 ls (.int (nI 2) :: st) h := e_iconst dX5_no_30 kiconst_2 rfl
theorem wX5_no_31 : E_ d mX5_no 31 ls st h = E_ d mX5_no 55 ls st h := e_gt dX5_no_31 rfl
theorem wX5_no_34 : E_ d mX5_no 34 [s0, .val (.int x)] st h = E_ d mX5_no 35 [s0, .val (.int x)] (.int x :: st) h := e_go dX5_no_34 rfl rfl
theorem wX5_no_35 : E_ d mX5_no 35 ls st h = E_ d mX5_no 37 ls (.int ((-6)) :: st) h := e_bipush dX5_no_35 kbipush_m6 rfl
theorem wX5_no_37 : E_ d mX5_no 37 ls (.int y :: .int x :: st) h = if x = y then E_ d mX5_no 40 ls st h else E_ d mX5_no 44 ls st h := e_ine dX5_no_37 rfl rfl
theorem wX5_no_40 : E_ d mX5_no 40 ls st h = E_ d mX5_no 41 ls (.int (nI 3) :: st) h := e_iconst dX5_no_40 kiconst_3 rfl
theorem wX5_no_41 : E_ d mX5_no 41 ls st h = E_ d mX5_no 55 ls st h := e_gt dX5_no_41 rfl
theorem wX5_no_44 : E_ d mX5_no 44 [s0, .val (.int x)] st h = E_ d mX5_no 45 [s0, .val (.int x)] (.int x :: st) h := e_go dX5_no_44 rfl rfl
theorem wX5_no_45 : E_ d mX5_no 45 ls st h = E_ d mX5_no 47 ls (.int ((-7)) :: st) h := e_bipush dX5_no_45 kbipush_m7 rfl
theorem wX5_no_47 : E_ d mX5_no 47 ls (.int y :: .int x :: st) h = if x = y then E_ d mX5_no 50 ls st h else E_ d mX5_no 54 ls st h := e_ine dX5_no_47 rfl rfl
theorem wX5_no_50 : E_ d mX5_no 50 ls st h = E_ d mX5_no 51 ls (.int (nI 4) :: st) h := e_iconst dX5_no_50 kiconst_4 rfl
theorem wX5_no_51 : E_ d mX5_no 51 ls st h = E_ d mX5_no 55 ls st h := e_gt dX5_no_51 rfl
theorem wX5_no_54 : E_ d mX5_no 54 ls st h = E_ d mX5_no 55 ls (.int (nI 5) :: st) h := e_iconst dX5_no_54 kiconst_5 rfl
theorem wX5_no_55 : E_ d mX5_no 55 ls (.int x :: .ref b :: st) h = E_ d mX5_no 56 ls (.int x :: .ref b :: .int x :: .ref b :: st) h := e_go dX5_no_55 rfl rfl
theorem wX5_no_56 (ht : oT h a = 40) (hi : xix x (oN h a) = true) : E_ d mX5_no 56 ls (.int x :: .ref a :: st) h = E_ d mX5_no 57 ls (.int (oI h a x.toNatClampNeg) :: st) h := e_iald dX5_no_56 rfl ht hi
theorem wX5_no_57 : E_ d mX5_no 57 ls st h = E_ d mX5_no 58 ls (.int (nI 1) :: st) h := e_iconst dX5_no_57 kiconst_1 rfl
theorem wX5_no_58 : E_ d mX5_no 58 ls (.int y :: .int x :: st) h = E_ d mX5_no 59 ls (.int (x + y) :: st) h := e_go dX5_no_58 rfl rfl
theorem wX5_no_59 (ht : oT h a = 40) (hi : xix x (oN h a) = true) : E_ d mX5_no 59 ls (.int y :: .int x :: .ref a :: st) h = E_ d mX5_no 60 ls st (pI h a (va_up (oI h a) x.toNatClampNeg y)) := e_iast dX5_no_59 rfl ht hi
theorem wX5_no_60 : E_ d mX5_no 60 [s0, .val (.int x)] st h = E_ d mX5_no 61 [s0, .val (.int x)] (.int x :: st) h := e_go dX5_no_60 rfl rfl
theorem wX5_no_61 : E_ d mX5_no 61 ls [.int x] h = some (some (.int x), h) := e_rt dX5_no_61 rfl rfl
/-! FootOutModel.text -/
theorem wX5_text_0 : E_ d mX5_text 0 [.val (.ref a), s1, s2, s3, s4, s5] st h = E_ d mX5_text 1 [.val (.ref a), s1, s2, s3, s4, s5] (.ref a :: st) h := e_go dX5_text_0 rfl rfl
theorem wX5_text_1 : E_ d mX5_text 1 ls st h = E_ d mX5_text 2 ls (.int (nI 0) :: st) h := e_iconst dX5_text_1 kiconst_0 rfl
theorem wX5_text_2 (ht : oT h a = 7) : E_ d mX5_text 2 ls (.int x :: .ref a :: st) h = E_ d mX5_text 5 ls st (pI h a (va_up (oI h a) 0 x)) := e_putI dX5_text_2 rfl rfl ht
theorem wX5_text_5 : E_ d mX5_text 5 [s0, .val (.int x), s2, s3, s4, s5] st h = E_ d mX5_text 6 [s0, .val (.int x), s2, s3, s4, s5] (.int x :: st) h := e_go dX5_text_5 rfl rfl
theorem wX5_text_6 : E_ d mX5_text 6 ls (.int x :: st) h = E_ d mX5_text 7 ls (.long x.toInt64 :: st) h := e_go dX5_text_6 rfl rfl
theorem wX5_text_7 : E_ d mX5_text 7 ls st h = E_ d mX5_text 8 ls (.long 0 :: st) h := e_go dX5_text_7 rfl rfl
theorem wX5_text_8 : E_ d mX5_text 8 ls st h = E_ d mX5_text 9 ls (.long 1 :: st) h := e_go dX5_text_8 rfl rfl
theorem wX5_text_9 : E_ (d + 1) mX5_text 9 ls [.long u3, .long u2, .long u1] h = (C_ d mX5_within [.long u1, .long u2, .long u3] h).bind fun r => E_ (d + 1) mX5_text 12 ls (xpu r.1 []) r.2 := e_call dX5_text_9 rfl rfl
theorem wX5_text_12 : E_ d mX5_text 12 ls (.int x :: st) h = if x = 0 then E_ d mX5_text 15 ls st h else E_ d mX5_text 22 ls st h := e_zne dX5_text_12 rfl rfl
theorem wX5_text_15 : E_ d mX5_text 15 [.val (.ref a), s1, s2, s3, s4, s5] st h = E_ d mX5_text 16 [.val (.ref a), s1, s2, s3, s4, s5] (.ref a :: st) h := e_go dX5_text_15 rfl rfl
theorem wX5_text_16 : E_ d mX5_text 16 ls st h = E_ d mX5_text 18 ls (.int ((-2)) :: st) h := e_bipush dX5_text_16 kbipush_m2 rfl
theorem wX5_text_18 (ht : oT h a = 7) : E_ (d + 1) mX5_text 18 ls [.int x1, .ref a] h = (C_ d mX5_no [.ref a, .int x1] h).bind fun r => E_ (d + 1) mX5_text 21 ls (xpu r.1 []) r.2 := e_vir dX5_text_18 rfl rfl rfl rfl rfl rfl (Nat.le_of_ble_eq_true rfl) (Nat.le_of_ble_eq_true rfl) ht
theorem wX5_text_21 : E_ d mX5_text 21 ls [.int x] h = some (some (.int x), h) := e_rt dX5_text_21 rfl rfl
theorem wX5_text_22 : E_ d mX5_text 22 [s0, s1, .val (.int x), s3, s4, s5] st h = E_ d mX5_text 23 [s0, s1, .val (.int x), s3, s4, s5] (.int x :: st) h := e_go dX5_text_22 rfl rfl
theorem wX5_text_23 : E_ d mX5_text 23 ls (.int x :: st) h = E_ d mX5_text 24 ls (.long x.toInt64 :: st) h := e_go dX5_text_23 rfl rfl
theorem wX5_text_24 : E_ d mX5_text 24 ls st h = E_ d mX5_text 25 ls (.long 0 :: st) h := e_go dX5_text_24 rfl rfl
theorem wX5_text_25 : E_ d mX5_text 25 [.val (.ref a), s1, s2, s3, s4, s5] st h = E_ d mX5_text 26 [.val (.ref a), s1, s2, s3, s4, s5] (.ref a :: st) h := e_go dX5_text_25 rfl rfl
theorem wX5_text_26 (ht : oT h a = 7) : E_ d mX5_text 26 ls (.ref a :: st) h = E_ d mX5_text 29 ls (.int (oI h a 6) :: st) h := e_getI dX5_text_26 rfl rfl ht
theorem wX5_text_29 : E_ d mX5_text 29 ls (.int x :: st) h = E_ d mX5_text 30 ls (.long x.toInt64 :: st) h := e_go dX5_text_29 rfl rfl
theorem wX5_text_30 : E_ (d + 1) mX5_text 30 ls [.long u3, .long u2, .long u1] h = (C_ d mX5_within [.long u1, .long u2, .long u3] h).bind fun r => E_ (d + 1) mX5_text 33 ls (xpu r.1 []) r.2 := e_call dX5_text_30 rfl rfl
theorem wX5_text_33 : E_ d mX5_text 33 ls (.int x :: st) h = if x = 0 then E_ d mX5_text 36 ls st h else E_ d mX5_text 43 ls st h := e_zne dX5_text_33 rfl rfl
theorem wX5_text_36 : E_ d mX5_text 36 [.val (.ref a), s1, s2, s3, s4, s5] st h = E_ d mX5_text 37 [.val (.ref a), s1, s2, s3, s4, s5] (.ref a :: st) h := e_go dX5_text_36 rfl rfl
theorem wX5_text_37 : E_ d mX5_text 37 ls st h = E_ d mX5_text 39 ls (.int ((-3)) :: st) h := e_bipush dX5_text_37 kbipush_m3 rfl
theorem wX5_text_39 (ht : oT h a = 7) : E_ (d + 1) mX5_text 39 ls [.int x1, .ref a] h = (C_ d mX5_no [.ref a, .int x1] h).bind fun r => E_ (d + 1) mX5_text 42 ls (xpu r.1 []) r.2 := e_vir dX5_text_39 rfl rfl rfl rfl rfl rfl (Nat.le_of_ble_eq_true rfl) (Nat.le_of_ble_eq_true rfl) ht
theorem wX5_text_42 : E_ d mX5_text 42 ls [.int x] h = some (some (.int x), h) := e_rt dX5_text_42 rfl rfl
theorem wX5_text_43 : E_ d mX5_text 43 [.val (.ref a), s1, s2, s3, s4, s5] st h = E_ d mX5_text 44 [.val (.ref a), s1, s2, s3, s4, s5] (.ref a :: st) h := e_go dX5_text_43 rfl rfl
theorem wX5_text_44 : E_ d mX5_text 44 [s0, s1, .val (.int x), s3, s4, s5] st h = E_ d mX5_text 45 [s0, s1, .val (.int x), s3, s4, s5] (.int x :: st) h := e_go dX5_text_44 rfl rfl
theorem wX5_text_45 (ht : oT h a = 7) : E_ d mX5_text 45 ls (.int x :: .ref a :: st) h = E_ d mX5_text 48 ls st (pI h a (va_up (oI h a) 9 x)) := e_putI dX5_text_45 rfl rfl ht
theorem wX5_text_48 : E_ d mX5_text 48 [.val (.ref a), s1, s2, s3, s4, s5] st h = E_ d mX5_text 49 [.val (.ref a), s1, s2, s3, s4, s5] (.ref a :: st) h := e_go dX5_text_48 rfl rfl
theorem wX5_text_49 : E_ d mX5_text 49 ls st h = E_ d mX5_text 50 ls (.int (nI 0) :: st) h := e_iconst dX5_text_49 kiconst_0 rfl
theorem wX5_text_50 (ht : oT h a = 7) : E_ d mX5_text 50 ls (.int x :: .ref a :: st) h = E_ d mX5_text 53 ls st (pI h a (va_up (oI h a) 6 x)) := e_putI dX5_text_50 rfl rfl ht
theorem wX5_text_53 : E_ d mX5_text 53 [.val (.ref a), s1, s2, s3, s4, s5] st h = E_ d mX5_text 54 [.val (.ref a), s1, s2, s3, s4, s5] (.ref a :: st) h := e_go dX5_text_53 rfl rfl
theorem wX5_text_54 : E_ d mX5_text 54 ls st h = E_ d mX5_text 55 ls (.int (nI 0) :: st) h := e_iconst dX5_text_54 kiconst_0 rfl
theorem wX5_text_55 (ht : oT h a = 7) : E_ d mX5_text 55 ls (.int x :: .ref a :: st) h = E_ d mX5_text 58 ls st (pI h a (va_up (oI h a) 8 x)) := e_putI dX5_text_55 rfl rfl ht
theorem wX5_text_58 : E_ d mX5_text 58 [.val (.ref a), s1, s2, s3, s4, s5] st h = E_ d mX5_text 59 [.val (.ref a), s1, s2, s3, s4, s5] (.ref a :: st) h := e_go dX5_text_58 rfl rfl
theorem wX5_text_59 : E_ d mX5_text 59 ls st h = E_ d mX5_text 60 ls (.int (nI 0) :: st) h := e_iconst dX5_text_59 kiconst_0 rfl
theorem wX5_text_60 (ht : oT h a = 7) : E_ d mX5_text 60 ls (.int x :: .ref a :: st) h = E_ d mX5_text 63 ls st (pI h a (va_up (oI h a) 12 x)) := e_putI dX5_text_60 rfl rfl ht
theorem wX5_text_63 : E_ d mX5_text 63 [.val (.ref a), s1, s2, s3, s4, s5] st h = E_ d mX5_text 64 [.val (.ref a), s1, s2, s3, s4, s5] (.ref a :: st) h := e_go dX5_text_63 rfl rfl
theorem wX5_text_64 : E_ d mX5_text 64 ls st h = E_ d mX5_text 65 ls (.int (nI 0) :: st) h := e_iconst dX5_text_64 kiconst_0 rfl
theorem wX5_text_65 (ht : oT h a = 7) : E_ d mX5_text 65 ls (.int x :: .ref a :: st) h = E_ d mX5_text 68 ls st (pI h a (va_up (oI h a) 14 x)) := e_putI dX5_text_65 rfl rfl ht
theorem wX5_text_68 : E_ d mX5_text 68 [.val (.ref a), s1, s2, s3, s4, s5] st h = E_ d mX5_text 69 [.val (.ref a), s1, s2, s3, s4, s5] (.ref a :: st) h := e_go dX5_text_68 rfl rfl
theorem wX5_text_69 : E_ d mX5_text 69 ls st h = E_ d mX5_text 70 ls (.int (nI 0) :: st) h := e_iconst dX5_text_69 kiconst_0 rfl
theorem wX5_text_70 (ht : oT h a = 7) : E_ d mX5_text 70 ls (.int x :: .ref a :: st) h = E_ d mX5_text 73 ls st (pI h a (va_up (oI h a) 15 x)) := e_putI dX5_text_70 rfl rfl ht
theorem wX5_text_73 : E_ d mX5_text 73 [.val (.ref a), s1, s2, s3, s4, s5] st h = E_ d mX5_text 74 [.val (.ref a), s1, s2, s3, s4, s5] (.ref a :: st) h := e_go dX5_text_73 rfl rfl
theorem wX5_text_74 (ht : oT h a = 7) : E_ d mX5_text 74 ls (.ref a :: st) h = E_ d mX5_text 77 ls (va_rf (oR h a 5) :: st) h := e_getR0 dX5_text_74 rfl rfl ht
theorem wX5_text_77 : E_ (d + 1) mX5_text 77 ls [.ref r1] h = (C_ d mX5_plain [.ref r1] h).bind fun r => E_ (d + 1) mX5_text 80 ls (xpu r.1 []) r.2 := e_call dX5_text_77 rfl rfl
theorem wX5_text_80 : E_ d mX5_text 80 [.val (.ref a), s1, s2, s3, s4, s5] st h = E_ d mX5_text 81 [.val (.ref a), s1, s2, s3, s4, s5] (.ref a :: st) h := e_go dX5_text_80 rfl rfl
theorem wX5_text_81 (ht : oT h a = 7) : E_ (d + 1) mX5_text 81 ls [.ref a] h = (C_ d mX5_next [.ref a] h).bind fun r => E_ (d + 1) mX5_text 84 ls (xpu r.1 []) r.2 := e_vir dX5_text_81 rfl rfl rfl rfl rfl rfl (Nat.le_of_ble_eq_true rfl) (Nat.le_of_ble_eq_true rfl) ht
theorem wX5_text_84 : E_ d mX5_text 84 [.val (.ref a), s1, s2, s3, s4, s5] st h = E_ d mX5_text 85 [.val (.ref a), s1, s2, s3, s4, s5] (.ref a :: st) h := e_go dX5_text_84 rfl rfl
theorem wX5_text_85 (ht : oT h a = 7) : E_ d mX5_text 85 ls (.ref a :: st) h = E_ d mX5_text 88 ls (.int (oI h a 12) :: st) h := e_getI dX5_text_85 rfl rfl ht
theorem wX5_text_88 : E_ d mX5_text 88 ls (.int x :: st) h = if x = 0 then E_ d mX5_text 91 ls st h else E_ d mX5_text 118 ls st h := e_zne dX5_text_88 rfl rfl
theorem wX5_text_91 : E_ d mX5_text 91 [.val (.ref a), s1, s2, s3, s4, s5] st h = E_ d mX5_text 92 [.val (.ref a), s1, s2, s3, s4, s5] (.ref a :: st) h := e_go dX5_text_91 rfl rfl
theorem wX5_text_92 (ht : oT h a = 7) : E_ d mX5_text 92 ls (.ref a :: st) h = E_ d mX5_text 95 ls (.int (oI h a 10) :: st) h := e_getI dX5_text_92 rfl rfl ht
theorem wX5_text_95 : E_ d mX5_text 95 ls st h = E_ d mX5_text 97 ls (.int (nI 34) :: st) h := e_bipush dX5_text_95 kbipush_34 rfl
theorem wX5_text_97 : E_ d mX5_text 97 ls (.int y :: .int x :: st) h = if x = y then E_ d mX5_text 118 ls st h else E_ d mX5_text 100 ls st h := e_ieq dX5_text_97 rfl rfl
theorem wX5_text_100 : E_ d mX5_text 100 [s0, .val (.int x), s2, s3, s4, s5] st h = E_ d mX5_text 101 [s0, .val (.int x), s2, s3, s4, s5] (.int x :: st) h := e_go dX5_text_100 rfl rfl
theorem wX5_text_101 : E_ d mX5_text 101 ls (.int x :: st) h = if x = 0 then E_ d mX5_text 104 ls st h else E_ d mX5_text 111 ls st h := e_zne dX5_text_101 rfl rfl
theorem wX5_text_104 : E_ d mX5_text 104 [.val (.ref a), s1, s2, s3, s4, s5] st h = E_ d mX5_text 105 [.val (.ref a), s1, s2, s3, s4, s5] (.ref a :: st) h := e_go dX5_text_104 rfl rfl
theorem wX5_text_105 (ht : oT h a = 7) : E_ (d + 1) mX5_text 105 ls [.ref a] h = (C_ d mX5_readLine [.ref a] h).bind fun r => E_ (d + 1) mX5_text 108 ls (xpu r.1 []) r.2 := e_vir dX5_text_105 rfl rfl rfl rfl rfl rfl (Nat.le_of_ble_eq_true rfl) (Nat.le_of_ble_eq_true rfl) ht
theorem wX5_text_108 : E_ d mX5_text 108 ls st h = E_ d mX5_text 84 ls st h := e_gt dX5_text_108 rfl
theorem wX5_text_111 : E_ d mX5_text 111 [.val (.ref a), s1, s2, s3, s4, s5] st h = E_ d mX5_text 112 [.val (.ref a), s1, s2, s3, s4, s5] (.ref a :: st) h := e_go dX5_text_111 rfl rfl
theorem wX5_text_112 (ht : oT h a = 7) : E_ (d + 1) mX5_text 112 ls [.ref a] h = (C_ d mX5_readLaw [.ref a] h).bind fun r => E_ (d + 1) mX5_text 115 ls (xpu r.1 []) r.2 := e_vir dX5_text_112 rfl rfl rfl rfl rfl rfl (Nat.le_of_ble_eq_true rfl) (Nat.le_of_ble_eq_true rfl) ht
theorem wX5_text_115 : E_ d mX5_text 115 ls st h = E_ d mX5_text 84 ls st h := e_gt dX5_text_115 rfl
theorem wX5_text_118 : E_ d mX5_text 118 [.val (.ref a), s1, s2, s3, s4, s5] st h = E_ d mX5_text 119 [.val (.ref a), s1, s2, s3, s4, s5] (.ref a :: st) h := e_go dX5_text_118 rfl rfl
theorem wX5_text_119 : E_ d mX5_text 119 [.val (.ref a), s1, s2, s3, s4, s5] st h = E_ d mX5_text 120 [.val (.ref a), s1, s2, s3, s4, s5] (.ref a :: st) h := e_go dX5_text_119 rfl rfl
theorem wX5_text_120 (ht : oT h a = 7) : E_ d mX5_text 120 ls (.ref a :: st) h = E_ d mX5_text 123 ls (.int (oI h a 12) :: st) h := e_getI dX5_text_120 rfl rfl ht
theorem wX5_text_123 (ht : oT h a = 7) : E_ d mX5_text 123 ls (.int x :: .ref a :: st) h = E_ d mX5_text 126 ls st (pI h a (va_up (oI h a) 16 x)) := e_putI dX5_text_123 rfl rfl ht
theorem wX5_text_126 : E_ d mX5_text 126 [.val (.ref a), s1, s2, s3, s4, s5] st h = E_ d mX5_text 127 [.val (.ref a), s1, s2, s3, s4, s5] (.ref a :: st) h := e_go dX5_text_126 rfl rfl
theorem wX5_text_127 : E_ d mX5_text 127 [.val (.ref a), s1, s2, s3, s4, s5] st h = E_ d mX5_text 128 [.val (.ref a), s1, s2, s3, s4, s5] (.ref a :: st) h := e_go dX5_text_127 rfl rfl
theorem wX5_text_128 (ht : oT h a = 7) : E_ d mX5_text 128 ls (.ref a :: st) h = E_ d mX5_text 131 ls (.int (oI h a 12) :: st) h := e_getI dX5_text_128 rfl rfl ht
theorem wX5_text_131 : E_ d mX5_text 131 ls (.int x :: st) h = if x = 0 then E_ d mX5_text 134 ls st h else E_ d mX5_text 138 ls st h := e_zne dX5_text_131 rfl rfl
theorem wX5_text_134 : E_ d mX5_text 134 ls st h = E_ d mX5_text 135 ls (.int ((-1)) :: st) h := e_iconst dX5_text_134 kiconst_m1 rfl
theorem wX5_text_135 : E_ d mX5_text 135 ls st h = E_ d mX5_text 142 ls st h := e_gt dX5_text_135 rfl
theorem wX5_text_138 : E_ d mX5_text 138 [.val (.ref a), s1, s2, s3, s4, s5] st h = E_ d mX5_text 139 [.val (.ref a), s1, s2, s3, s4, s5] (.ref a :: st) h := e_go dX5_text_138 rfl rfl
theorem wX5_text_139 (ht : oT h a = 7) : E_ d mX5_text 139 ls (.ref a :: st) h = E_ d mX5_text 142 ls (.int (oI h a 13) :: st) h := e_getI dX5_text_139 rfl rfl ht
theorem wX5_text_142 (ht : oT h a = 7) : E_ d mX5_text 142 ls (.int x :: .ref a :: st) h = E_ d mX5_text 145 ls st (pI h a (va_up (oI h a) 17 x)) := e_putI dX5_text_142 rfl rfl ht
theorem wX5_text_145 : E_ d mX5_text 145 [.val (.ref a), s1, s2, s3, s4, s5] st h = E_ d mX5_text 146 [.val (.ref a), s1, s2, s3, s4, s5] (.ref a :: st) h := e_go dX5_text_145 rfl rfl
theorem wX5_text_146 (ht : oT h a = 7) : E_ d mX5_text 146 ls (.ref a :: st) h = E_ d mX5_text 149 ls (.int (oI h a 12) :: st) h := e_getI dX5_text_146 rfl rfl ht
theorem wX5_text_149 : E_ d mX5_text 149 ls (.int x :: st) h = if x = 0 then E_ d mX5_text 164 ls st h else E_ d mX5_text 152 ls st h := e_zeq dX5_text_149 rfl rfl
theorem wX5_text_152 : E_ d mX5_text 152 [.val (.ref a), s1, s2, s3, s4, s5] st h = E_ d mX5_text 153 [.val (.ref a), s1, s2, s3, s4, s5] (.ref a :: st) h := e_go dX5_text_152 rfl rfl
theorem wX5_text_153 : E_ d mX5_text 153 ls st h = E_ d mX5_text 155 ls (.int ((-30)) :: st) h := e_bipush dX5_text_153 kbipush_m30 rfl
theorem wX5_text_155 : E_ d mX5_text 155 [.val (.ref a), s1, s2, s3, s4, s5] st h = E_ d mX5_text 156 [.val (.ref a), s1, s2, s3, s4, s5] (.ref a :: st) h := e_go dX5_text_155 rfl rfl
theorem wX5_text_156 (ht : oT h a = 7) : E_ d mX5_text 156 ls (.ref a :: st) h = E_ d mX5_text 159 ls (.int (oI h a 12) :: st) h := e_getI dX5_text_156 rfl rfl ht
theorem wX5_text_159 : E_ d mX5_text 159 ls (.int y :: .int x :: st) h = E_ d mX5_text 160 ls (.int (x - y) :: st) h := e_go dX5_text_159 rfl rfl
theorem wX5_text_160 (ht : oT h a = 7) : E_ (d + 1) mX5_text 160 ls [.int x1, .ref a] h = (C_ d mX5_no [.ref a, .int x1] h).bind fun r => E_ (d + 1) mX5_text 163 ls (xpu r.1 []) r.2 := e_vir dX5_text_160 rfl rfl rfl rfl rfl rfl (Nat.le_of_ble_eq_true rfl) (Nat.le_of_ble_eq_true rfl) ht
theorem wX5_text_163 : E_ d mX5_text 163 ls [.int x] h = some (some (.int x), h) := e_rt dX5_text_163 rfl rfl
theorem wX5_text_164 : E_ d mX5_text 164 [s0, .val (.int x), s2, s3, s4, s5] st h = E_ d mX5_text 165 [s0, .val (.int x), s2, s3, s4, s5] (.int x :: st) h := e_go dX5_text_164 rfl rfl
theorem wX5_text_165 : E_ d mX5_text 165 ls (.int x :: st) h = if x = 0 then E_ d mX5_text 168 ls st h else E_ d mX5_text 172 ls st h := e_zne dX5_text_165 rfl rfl
theorem wX5_text_168 : E_ d mX5_text 168 ls st h = E_ d mX5_text 169 ls (.int (nI 0) :: st) h := e_iconst dX5_text_168 kiconst_0 rfl
theorem wX5_text_169 : E_ d mX5_text 169 ls st h = E_ d mX5_text 174 ls st h := e_gt dX5_text_169 rfl
theorem wX5_text_172 : E_ d mX5_text 172 ls st h = E_ d mX5_text 174 ls (.int (nI 40) :: st) h := e_bipush dX5_text_172 kbipush_40 rfl
theorem wX5_text_174 : E_ d mX5_text 174 [s0, s1, s2, s3, s4, s5] (.int x :: st) h = E_ d mX5_text 175 [s0, s1, xk s2, .val (.int x), s4, s5] st h := e_go dX5_text_174 rfl rfl
theorem wX5_text_175 : E_ d mX5_text 175 [s0, .val (.int x), s2, s3, s4, s5] st h = E_ d mX5_text 176 [s0, .val (.int x), s2, s3, s4, s5] (.int x :: st) h := e_go dX5_text_175 rfl rfl
theorem wX5_text_176 : E_ d mX5_text 176 ls (.int x :: st) h = if x = 0 then E_ d mX5_text 179 ls st h else E_ d mX5_text 184 ls st h := e_zne dX5_text_176 rfl rfl
theorem wX5_text_179 : E_ d mX5_text 179 ls st h = E_ d mX5_text 181 ls (.int (nI 40) :: st) h := e_bipush dX5_text_179 kbipush_40 rfl
theorem wX5_text_181 : E_ d mX5_text 181 ls st h = E_ d mX5_text 187 ls st h := e_gt dX5_text_181 rfl
theorem wX5_text_184 : E_ d mX5_text 184 ls st h = E_ d mX5_text 187 ls (.int (nI 477) :: st) h := e_sipush dX5_text_184 ksipush_477 rfl
theorem wX5_text_187 : E_ d mX5_text 187 [s0, s1, s2, s3, s4, s5] (.int x :: st) h = E_ d mX5_text 189 [s0, s1, s2, xk s3, .val (.int x), s5] st h := e_go dX5_text_187 rfl rfl
theorem wX5_text_189 : E_ d mX5_text 189 [s0, s1, s2, .val (.int x), s4, s5] st h = E_ d mX5_text 190 [s0, s1, s2, .val (.int x), s4, s5] (.int x :: st) h := e_go dX5_text_189 rfl rfl
theorem wX5_text_190 : E_ d mX5_text 190 [s0, s1, s2, s3, s4, s5] (.int x :: st) h = E_ d mX5_text 192 [s0, s1, s2, s3, xk s4, .val (.int x)] st h := e_go dX5_text_190 rfl rfl
theorem wX5_text_192 : E_ d mX5_text 192 [s0, s1, s2, s3, s4, .val (.int x)] st h = E_ d mX5_text 194 [s0, s1, s2, s3, s4, .val (.int x)] (.int x :: st) h := e_go dX5_text_192 rfl rfl
theorem wX5_text_194 : E_ d mX5_text 194 [s0, s1, s2, s3, .val (.int x), s5] st h = E_ d mX5_text 196 [s0, s1, s2, s3, .val (.int x), s5] (.int x :: st) h := e_go dX5_text_194 rfl rfl
theorem wX5_text_196 : E_ d mX5_text 196 ls (.int y :: .int x :: st) h = if x < y then E_ d mX5_text 199 ls st h else E_ d mX5_text 219 ls st h := e_ige dX5_text_196 rfl rfl
theorem wX5_text_199 : E_ d mX5_text 199 [.val (.ref a), s1, s2, s3, s4, s5] st h = E_ d mX5_text 200 [.val (.ref a), s1, s2, s3, s4, s5] (.ref a :: st) h := e_go dX5_text_199 rfl rfl
theorem wX5_text_200 (ht : oT h a = 7) : E_ d mX5_text 200 ls (.ref a :: st) h = E_ d mX5_text 203 ls (va_rf (oR h a 2) :: st) h := e_getR0 dX5_text_200 rfl rfl ht
theorem wX5_text_203 : E_ d mX5_text 203 [s0, s1, s2, s3, s4, .val (.int x)] st h = E_ d mX5_text 205 [s0, s1, s2, s3, s4, .val (.int x)] (.int x :: st) h := e_go dX5_text_203 rfl rfl
theorem wX5_text_205 : E_ d mX5_text 205 [.val (.ref a), s1, s2, s3, s4, s5] st h = E_ d mX5_text 206 [.val (.ref a), s1, s2, s3, s4, s5] (.ref a :: st) h := e_go dX5_text_205 rfl rfl
theorem wX5_text_206 (ht : oT h a = 7) : E_ d mX5_text 206 ls (.ref a :: st) h = E_ d mX5_text 209 ls (va_rf (oR h a 5) :: st) h := e_getR0 dX5_text_206 rfl rfl ht
theorem wX5_text_209 : E_ d mX5_text 209 [s0, s1, s2, s3, s4, .val (.int x)] st h = E_ d mX5_text 211 [s0, s1, s2, s3, s4, .val (.int x)] (.int x :: st) h := e_go dX5_text_209 rfl rfl
theorem wX5_text_211 (ht : oT h a = 40) (hi : xix x (oN h a) = true) : E_ d mX5_text 211 ls (.int x :: .ref a :: st) h = E_ d mX5_text 212 ls (.int (oI h a x.toNatClampNeg) :: st) h := e_iald dX5_text_211 rfl ht hi
theorem wX5_text_212 (ht : oT h a = 40) (hi : xix x (oN h a) = true) : E_ d mX5_text 212 ls (.int y :: .int x :: .ref a :: st) h = E_ d mX5_text 213 ls st (pI h a (va_up (oI h a) x.toNatClampNeg y)) := e_iast dX5_text_212 rfl ht hi
theorem wX5_text_213 : E_ d mX5_text 213 [s0, s1, s2, s3, s4, .val (.int x)] st h = E_ d mX5_text 216 [s0, s1, s2, s3, xk s4, .val (.int (x + nI 1))] st h := by rw [← kiinc_1]; exact e_go dX5_text_213 rfl rfl
theorem wX5_text_216 : E_ d mX5_text 216 ls st h = E_ d mX5_text 192 ls st h := e_gt dX5_text_216 rfl
theorem wX5_text_219 : E_ d mX5_text 219 [s0, .val (.int x), s2, s3, s4, s5] st h = E_ d mX5_text 220 [s0, .val (.int x), s2, s3, s4, s5] (.int x :: st) h := e_go dX5_text_219 rfl rfl
theorem wX5_text_220 : E_ d mX5_text 220 ls (.int x :: st) h = if x = 0 then E_ d mX5_text 223 ls st h else E_ d mX5_text 233 ls st h := e_zne dX5_text_220 rfl rfl
theorem wX5_text_223 : E_ d mX5_text 223 [.val (.ref a), s1, s2, s3, s4, s5] st h = E_ d mX5_text 224 [.val (.ref a), s1, s2, s3, s4, s5] (.ref a :: st) h := e_go dX5_text_223 rfl rfl
theorem wX5_text_224 (ht : oT h a = 7) : E_ d mX5_text 224 ls (.ref a :: st) h = E_ d mX5_text 227 ls (va_rf (oR h a 2) :: st) h := e_getR0 dX5_text_224 rfl rfl ht
theorem wX5_text_227 : E_ d mX5_text 227 ls st h = E_ d mX5_text 229 ls (.int (nI 39) :: st) h := e_bipush dX5_text_227 kbipush_39 rfl
theorem wX5_text_229 (ht : oT h a = 40) (hi : xix x (oN h a) = true) : E_ d mX5_text 229 ls (.int x :: .ref a :: st) h = E_ d mX5_text 230 ls (.int (oI h a x.toNatClampNeg) :: st) h := e_iald dX5_text_229 rfl ht hi
theorem wX5_text_230 : E_ d mX5_text 230 ls st h = E_ d mX5_text 240 ls st h := e_gt dX5_text_230 rfl
theorem wX5_text_233 : E_ d mX5_text 233 [.val (.ref a), s1, s2, s3, s4, s5] st h = E_ d mX5_text 234 [.val (.ref a), s1, s2, s3, s4, s5] (.ref a :: st) h := e_go dX5_text_233 rfl rfl
theorem wX5_text_234 (ht : oT h a = 7) : E_ d mX5_text 234 ls (.ref a :: st) h = E_ d mX5_text 237 ls (va_rf (oR h a 2) :: st) h := e_getR0 dX5_text_234 rfl rfl ht
theorem wX5_text_237 : E_ d mX5_text 237 ls st h = E_ d mX5_text 239 ls (.int (nI 40) :: st) h := e_bipush dX5_text_237 kbipush_40 rfl
theorem wX5_text_239 (ht : oT h a = 40) (hi : xix x (oN h a) = true) : E_ d mX5_text 239 ls (.int x :: .ref a :: st) h = E_ d mX5_text 240 ls (.int (oI h a x.toNatClampNeg) :: st) h := e_iald dX5_text_239 rfl ht hi
theorem wX5_text_240 : E_ d mX5_text 240 ls [.int x] h = some (some (.int x), h) := e_rt dX5_text_240 rfl rfl
/-! FootOutModel.within -/
theorem wX5_within_0 : E_ d mX5_within 0 [.val (.long u), s1, s2, s3, s4, s5] st h = E_ d mX5_within 1 [.val (.long u), s1, s2, s3, s4, s5] (.long u :: st) h := e_go dX5_within_0 rfl rfl
theorem wX5_within_1 : E_ d mX5_within 1 [s0, s1, .val (.long u), s3, s4, s5] st h = E_ d mX5_within 2 [s0, s1, .val (.long u), s3, s4, s5] (.long u :: st) h := e_go dX5_within_1 rfl rfl
theorem wX5_within_2 : E_ d mX5_within 2 ls (.long v :: .long u :: st) h = E_ d mX5_within 3 ls (.int (lg_cmp u v) :: st) h := e_go dX5_within_2 rfl rfl
theorem wX5_within_3 : E_ d mX5_within 3 ls (.int x :: st) h = if x < 0 then E_ d mX5_within 17 ls st h else E_ d mX5_within 6 ls st h := e_zlt dX5_within_3 rfl rfl
theorem wX5_within_6 : E_ d mX5_within 6 [.val (.long u), s1, s2, s3, s4, s5] st h = E_ d mX5_within 7 [.val (.long u), s1, s2, s3, s4, s5] (.long u :: st) h := e_go dX5_within_6 rfl rfl
theorem wX5_within_7 : E_ d mX5_within 7 [s0, s1, s2, s3, .val (.long u), s5] st h = E_ d mX5_within 9 [s0, s1, s2, s3, .val (.long u), s5] (.long u :: st) h := e_go dX5_within_7 rfl rfl
theorem wX5_within_9 : E_ d mX5_within 9 ls (.long v :: .long u :: st) h = E_ d mX5_within 10 ls (.int (lg_cmp u v) :: st) h := e_go dX5_within_9 rfl rfl
theorem wX5_within_10 : E_ d mX5_within 10 ls (.int x :: st) h = if 0 < x then E_ d mX5_within 17 ls st h else E_ d mX5_within 13 ls st h := e_zgt dX5_within_10 rfl rfl
theorem wX5_within_13 : E_ d mX5_within 13 ls st h = E_ d mX5_within 14 ls (.int (nI 1) :: st) h := e_iconst dX5_within_13 kiconst_1 rfl
theorem wX5_within_14 : E_ d mX5_within 14 ls st h = E_ d mX5_within 18 ls st h := e_gt dX5_within_14 rfl
theorem wX5_within_17 : E_ d mX5_within 17 ls st h = E_ d mX5_within 18 ls (.int (nI 0) :: st) h := e_iconst dX5_within_17 kiconst_0 rfl
theorem wX5_within_18 (hx : x = 0 ∨ x = 1) : E_ d mX5_within 18 ls [.int x] h = some (some (.int x), h) := e_rtZ dX5_within_18 rfl hx
/-! FootOutModel.next -/
theorem wX5_next_0 : E_ d mX5_next 0 [.val (.ref a)] st h = E_ d mX5_next 1 [.val (.ref a)] (.ref a :: st) h := e_go dX5_next_0 rfl rfl
theorem wX5_next_1 : E_ d mX5_next 1 [.val (.ref a)] st h = E_ d mX5_next 2 [.val (.ref a)] (.ref a :: st) h := e_go dX5_next_1 rfl rfl
theorem wX5_next_2 (ht : oT h a = 7) : E_ d mX5_next 2 ls (.ref a :: st) h = E_ d mX5_next 5 ls (.int (oI h a 8) :: st) h := e_getI dX5_next_2 rfl rfl ht
theorem wX5_next_5 (ht : oT h a = 7) : E_ d mX5_next 5 ls (.int x :: .ref a :: st) h = E_ d mX5_next 8 ls st (pI h a (va_up (oI h a) 7 x)) := e_putI dX5_next_5 rfl rfl ht
theorem wX5_next_8 : E_ d mX5_next 8 [.val (.ref a)] st h = E_ d mX5_next 9 [.val (.ref a)] (.ref a :: st) h := e_go dX5_next_8 rfl rfl
theorem wX5_next_9 : E_ d mX5_next 9 [.val (.ref a)] st h = E_ d mX5_next 10 [.val (.ref a)] (.ref a :: st) h := e_go dX5_next_9 rfl rfl
theorem wX5_next_10 (ht : oT h a = 7) : E_ d mX5_next 10 ls (.ref a :: st) h = E_ d mX5_next 13 ls (.int (oI h a 7) :: st) h := e_getI dX5_next_10 rfl rfl ht
theorem wX5_next_13 (ht : oT h a = 7) : E_ (d + 1) mX5_next 13 ls [.int x1, .ref a] h = (C_ d mX5_see [.ref a, .int x1] h).bind fun r => E_ (d + 1) mX5_next 16 ls (xpu r.1 []) r.2 := e_vir dX5_next_13 rfl rfl rfl rfl rfl rfl (Nat.le_of_ble_eq_true rfl) (Nat.le_of_ble_eq_true rfl) ht
theorem wX5_next_16 : E_ d mX5_next 16 ls st h = E_ d mX5_next 18 ls (.int (nI 10) :: st) h := e_bipush dX5_next_16 kbipush_10 rfl
theorem wX5_next_18 : E_ d mX5_next 18 ls (.int y :: .int x :: st) h = if x = y then E_ d mX5_next 34 ls st h else E_ d mX5_next 21 ls st h := e_ieq dX5_next_18 rfl rfl
theorem wX5_next_21 : E_ d mX5_next 21 [.val (.ref a)] st h = E_ d mX5_next 22 [.val (.ref a)] (.ref a :: st) h := e_go dX5_next_21 rfl rfl
theorem wX5_next_22 : E_ d mX5_next 22 [.val (.ref a)] st h = E_ d mX5_next 23 [.val (.ref a)] (.ref a :: st) h := e_go dX5_next_22 rfl rfl
theorem wX5_next_23 (ht : oT h a = 7) : E_ d mX5_next 23 ls (.ref a :: st) h = E_ d mX5_next 26 ls (.int (oI h a 7) :: st) h := e_getI dX5_next_23 rfl rfl ht
theorem wX5_next_26 (ht : oT h a = 7) : E_ (d + 1) mX5_next 26 ls [.int x1, .ref a] h = (C_ d mX5_see [.ref a, .int x1] h).bind fun r => E_ (d + 1) mX5_next 29 ls (xpu r.1 []) r.2 := e_vir dX5_next_26 rfl rfl rfl rfl rfl rfl (Nat.le_of_ble_eq_true rfl) (Nat.le_of_ble_eq_true rfl) ht
theorem wX5_next_29 : E_ d mX5_next 29 ls st h = E_ d mX5_next 31 ls (.int (nI 32) :: st) h := e_bipush dX5_next_29 kbipush_32 rfl
theorem wX5_next_31 : E_ d mX5_next 31 ls (.int y :: .int x :: st) h = if x = y then E_ d mX5_next 34 ls st h else E_ d mX5_next 47 ls st h := e_ine dX5_next_31 rfl rfl
theorem wX5_next_34 : E_ d mX5_next 34 [.val (.ref a)] st h = E_ d mX5_next 35 [.val (.ref a)] (.ref a :: st) h := e_go dX5_next_34 rfl rfl
theorem wX5_next_35 : E_ d mX5_next 35 ls (.ref a :: st) h = E_ d mX5_next 36 ls (.ref a :: .ref a :: st) h := e_go dX5_next_35 rfl rfl
theorem wX5_next_36 (ht : oT h a = 7) : E_ d mX5_next 36 ls (.ref a :: st) h = E_ d mX5_next 39 ls (.int (oI h a 7) :: st) h := e_getI dX5_next_36 rfl rfl ht
theorem wX5_next_39 : E_ d mX5_next 39 ls st h = E_ d mX5_next 40 ls (.int (nI 1) :: st) h := e_iconst dX5_next_39 kiconst_1 rfl
theorem wX5_next_40 : E_ d mX5_next 40 ls (.int y :: .int x :: st) h = E_ d mX5_next 41 ls (.int (x + y) :: st) h := e_go dX5_next_40 rfl rfl
theorem wX5_next_41 (ht : oT h a = 7) : E_ d mX5_next 41 ls (.int x :: .ref a :: st) h = E_ d mX5_next 44 ls st (pI h a (va_up (oI h a) 7 x)) := e_putI dX5_next_41 rfl rfl ht
theorem wX5_next_44 : E_ d mX5_next 44 ls st h = E_ d mX5_next 8 ls st h := e_gt dX5_next_44 rfl
theorem wX5_next_47 : E_ d mX5_next 47 [.val (.ref a)] st h = E_ d mX5_next 48 [.val (.ref a)] (.ref a :: st) h := e_go dX5_next_47 rfl rfl
theorem wX5_next_48 : E_ d mX5_next 48 [.val (.ref a)] st h = E_ d mX5_next 49 [.val (.ref a)] (.ref a :: st) h := e_go dX5_next_48 rfl rfl
theorem wX5_next_49 (ht : oT h a = 7) : E_ d mX5_next 49 ls (.ref a :: st) h = E_ d mX5_next 52 ls (.int (oI h a 7) :: st) h := e_getI dX5_next_49 rfl rfl ht
theorem wX5_next_52 (ht : oT h a = 7) : E_ d mX5_next 52 ls (.int x :: .ref a :: st) h = E_ d mX5_next 55 ls st (pI h a (va_up (oI h a) 8 x)) := e_putI dX5_next_52 rfl rfl ht
theorem wX5_next_55 : E_ d mX5_next 55 [.val (.ref a)] st h = E_ d mX5_next 56 [.val (.ref a)] (.ref a :: st) h := e_go dX5_next_55 rfl rfl
theorem wX5_next_56 (ht : oT h a = 7) : E_ d mX5_next 56 ls (.ref a :: st) h = E_ d mX5_next 59 ls (.int (oI h a 7) :: st) h := e_getI dX5_next_56 rfl rfl ht
theorem wX5_next_59 : E_ d mX5_next 59 [.val (.ref a)] st h = E_ d mX5_next 60 [.val (.ref a)] (.ref a :: st) h := e_go dX5_next_59 rfl rfl
theorem wX5_next_60 (ht : oT h a = 7) : E_ d mX5_next 60 ls (.ref a :: st) h = E_ d mX5_next 63 ls (.int (oI h a 9) :: st) h := e_getI dX5_next_60 rfl rfl ht
theorem wX5_next_63 : E_ d mX5_next 63 ls (.int y :: .int x :: st) h = if x < y then E_ d mX5_next 75 ls st h else E_ d mX5_next 66 ls st h := e_ilt dX5_next_63 rfl rfl
theorem wX5_next_66 : E_ d mX5_next 66 [.val (.ref a)] st h = E_ d mX5_next 67 [.val (.ref a)] (.ref a :: st) h := e_go dX5_next_66 rfl rfl
theorem wX5_next_67 : E_ d mX5_next 67 ls st h = E_ d mX5_next 69 ls (.int (nI 34) :: st) h := e_bipush dX5_next_67 kbipush_34 rfl
theorem wX5_next_69 (ht : oT h a = 7) : E_ d mX5_next 69 ls (.int x :: .ref a :: st) h = E_ d mX5_next 72 ls st (pI h a (va_up (oI h a) 10 x)) := e_putI dX5_next_69 rfl rfl ht
theorem wX5_next_72 : E_ d mX5_next 72 ls st h = E_ d mX5_next 306 ls st h := e_gt dX5_next_72 rfl
theorem wX5_next_75 : E_ d mX5_next 75 [.val (.ref a)] st h = E_ d mX5_next 76 [.val (.ref a)] (.ref a :: st) h := e_go dX5_next_75 rfl rfl
theorem wX5_next_76 : E_ d mX5_next 76 [.val (.ref a)] st h = E_ d mX5_next 77 [.val (.ref a)] (.ref a :: st) h := e_go dX5_next_76 rfl rfl
theorem wX5_next_77 (ht : oT h a = 7) : E_ d mX5_next 77 ls (.ref a :: st) h = E_ d mX5_next 80 ls (.int (oI h a 7) :: st) h := e_getI dX5_next_77 rfl rfl ht
theorem wX5_next_80 (ht : oT h a = 7) : E_ (d + 1) mX5_next 80 ls [.int x1, .ref a] h = (C_ d mX5_see [.ref a, .int x1] h).bind fun r => E_ (d + 1) mX5_next 83 ls (xpu r.1 []) r.2 := e_vir dX5_next_80 rfl rfl rfl rfl rfl rfl (Nat.le_of_ble_eq_true rfl) (Nat.le_of_ble_eq_true rfl) ht
theorem wX5_next_83 : E_ (d + 1) mX5_next 83 ls [.int x1] h = (C_ d mX5_isSmall [.int x1] h).bind fun r => E_ (d + 1) mX5_next 86 ls (xpu r.1 []) r.2 := e_call dX5_next_83 rfl rfl
theorem wX5_next_86 : E_ d mX5_next 86 ls (.int x :: st) h = if x = 0 then E_ d mX5_next 127 ls st h else E_ d mX5_next 89 ls st h := e_zeq dX5_next_86 rfl rfl
theorem wX5_next_89 : E_ d mX5_next 89 [.val (.ref a)] st h = E_ d mX5_next 90 [.val (.ref a)] (.ref a :: st) h := e_go dX5_next_89 rfl rfl
theorem wX5_next_90 : E_ d mX5_next 90 [.val (.ref a)] st h = E_ d mX5_next 91 [.val (.ref a)] (.ref a :: st) h := e_go dX5_next_90 rfl rfl
theorem wX5_next_91 (ht : oT h a = 7) : E_ d mX5_next 91 ls (.ref a :: st) h = E_ d mX5_next 94 ls (.int (oI h a 8) :: st) h := e_getI dX5_next_91 rfl rfl ht
theorem wX5_next_94 (ht : oT h a = 7) : E_ (d + 1) mX5_next 94 ls [.int x1, .ref a] h = (C_ d mX5_see [.ref a, .int x1] h).bind fun r => E_ (d + 1) mX5_next 97 ls (xpu r.1 []) r.2 := e_vir dX5_next_94 rfl rfl rfl rfl rfl rfl (Nat.le_of_ble_eq_true rfl) (Nat.le_of_ble_eq_true rfl) ht
theorem wX5_next_97 : E_ (d + 1) mX5_next 97 ls [.int x1] h = (C_ d mX5_isSmall [.int x1] h).bind fun r => E_ (d + 1) mX5_next 100 ls (xpu r.1 []) r.2 := e_call dX5_next_97 rfl rfl
theorem wX5_next_100 : E_ d mX5_next 100 ls (.int x :: st) h = if x = 0 then E_ d mX5_next 116 ls st h else E_ d mX5_next 103 ls st h := e_zeq dX5_next_100 rfl rfl
theorem wX5_next_103 : E_ d mX5_next 103 [.val (.ref a)] st h = E_ d mX5_next 104 [.val (.ref a)] (.ref a :: st) h := e_go dX5_next_103 rfl rfl
theorem wX5_next_104 : E_ d mX5_next 104 ls (.ref a :: st) h = E_ d mX5_next 105 ls (.ref a :: .ref a :: st) h := e_go dX5_next_104 rfl rfl
theorem wX5_next_105 (ht : oT h a = 7) : E_ d mX5_next 105 ls (.ref a :: st) h = E_ d mX5_next 108 ls (.int (oI h a 8) :: st) h := e_getI dX5_next_105 rfl rfl ht
theorem wX5_next_108 : E_ d mX5_next 108 ls st h = E_ d mX5_next 109 ls (.int (nI 1) :: st) h := e_iconst dX5_next_108 kiconst_1 rfl
theorem wX5_next_109 : E_ d mX5_next 109 ls (.int y :: .int x :: st) h = E_ d mX5_next 110 ls (.int (x + y) :: st) h := e_go dX5_next_109 rfl rfl
theorem wX5_next_110 (ht : oT h a = 7) : E_ d mX5_next 110 ls (.int x :: .ref a :: st) h = E_ d mX5_next 113 ls st (pI h a (va_up (oI h a) 8 x)) := e_putI dX5_next_110 rfl rfl ht
theorem wX5_next_113 : E_ d mX5_next 113 ls st h = E_ d mX5_next 89 ls st h := e_gt dX5_next_113 rfl
theorem wX5_next_116 : E_ d mX5_next 116 [.val (.ref a)] st h = E_ d mX5_next 117 [.val (.ref a)] (.ref a :: st) h := e_go dX5_next_116 rfl rfl
theorem wX5_next_117 : E_ d mX5_next 117 [.val (.ref a)] st h = E_ d mX5_next 118 [.val (.ref a)] (.ref a :: st) h := e_go dX5_next_117 rfl rfl
theorem wX5_next_118 (ht : oT h a = 7) : E_ (d + 1) mX5_next 118 ls [.ref a, .ref r1] h = (C_ d mX5_keyAt [.ref a] h).bind fun r => E_ (d + 1) mX5_next 121 ls (xpu r.1 [.ref r1]) r.2 := e_vir dX5_next_118 rfl rfl rfl rfl rfl rfl (Nat.le_of_ble_eq_true rfl) (Nat.le_of_ble_eq_true rfl) ht
theorem wX5_next_121 (ht : oT h a = 7) : E_ d mX5_next 121 ls (.int x :: .ref a :: st) h = E_ d mX5_next 124 ls st (pI h a (va_up (oI h a) 10 x)) := e_putI dX5_next_121 rfl rfl ht
theorem wX5_next_124 : E_ d mX5_next 124 ls st h = E_ d mX5_next 306 ls st h := e_gt dX5_next_124 rfl
theorem wX5_next_127 : E_ d mX5_next 127 [.val (.ref a)] st h = E_ d mX5_next 128 [.val (.ref a)] (.ref a :: st) h := e_go dX5_next_127 rfl rfl
theorem wX5_next_128 : E_ d mX5_next 128 [.val (.ref a)] st h = E_ d mX5_next 129 [.val (.ref a)] (.ref a :: st) h := e_go dX5_next_128 rfl rfl
theorem wX5_next_129 (ht : oT h a = 7) : E_ d mX5_next 129 ls (.ref a :: st) h = E_ d mX5_next 132 ls (.int (oI h a 7) :: st) h := e_getI dX5_next_129 rfl rfl ht
theorem wX5_next_132 (ht : oT h a = 7) : E_ (d + 1) mX5_next 132 ls [.int x1, .ref a] h = (C_ d mX5_see [.ref a, .int x1] h).bind fun r => E_ (d + 1) mX5_next 135 ls (xpu r.1 []) r.2 := e_vir dX5_next_132 rfl rfl rfl rfl rfl rfl (Nat.le_of_ble_eq_true rfl) (Nat.le_of_ble_eq_true rfl) ht
theorem wX5_next_135 : E_ (d + 1) mX5_next 135 ls [.int x1] h = (C_ d mX5_isDigit [.int x1] h).bind fun r => E_ (d + 1) mX5_next 138 ls (xpu r.1 []) r.2 := e_call dX5_next_135 rfl rfl
theorem wX5_next_138 : E_ d mX5_next 138 ls (.int x :: st) h = if x = 0 then E_ d mX5_next 236 ls st h else E_ d mX5_next 141 ls st h := e_zeq dX5_next_138 rfl rfl
theorem wX5_next_141 : E_ d mX5_next 141 [.val (.ref a)] st h = E_ d mX5_next 142 [.val (.ref a)] (.ref a :: st) h := e_go dX5_next_141 rfl rfl
theorem wX5_next_142 : E_ d mX5_next 142 ls st h = E_ d mX5_next 143 ls (.int (nI 0) :: st) h := e_iconst dX5_next_142 kiconst_0 rfl
theorem wX5_next_143 (ht : oT h a = 7) : E_ d mX5_next 143 ls (.int x :: .ref a :: st) h = E_ d mX5_next 146 ls st (pI h a (va_up (oI h a) 11 x)) := e_putI dX5_next_143 rfl rfl ht
theorem wX5_next_146 : E_ d mX5_next 146 [.val (.ref a)] st h = E_ d mX5_next 147 [.val (.ref a)] (.ref a :: st) h := e_go dX5_next_146 rfl rfl
theorem wX5_next_147 : E_ d mX5_next 147 [.val (.ref a)] st h = E_ d mX5_next 148 [.val (.ref a)] (.ref a :: st) h := e_go dX5_next_147 rfl rfl
theorem wX5_next_148 (ht : oT h a = 7) : E_ d mX5_next 148 ls (.ref a :: st) h = E_ d mX5_next 151 ls (.int (oI h a 8) :: st) h := e_getI dX5_next_148 rfl rfl ht
theorem wX5_next_151 (ht : oT h a = 7) : E_ (d + 1) mX5_next 151 ls [.int x1, .ref a] h = (C_ d mX5_see [.ref a, .int x1] h).bind fun r => E_ (d + 1) mX5_next 154 ls (xpu r.1 []) r.2 := e_vir dX5_next_151 rfl rfl rfl rfl rfl rfl (Nat.le_of_ble_eq_true rfl) (Nat.le_of_ble_eq_true rfl) ht
theorem wX5_next_154 : E_ (d + 1) mX5_next 154 ls [.int x1] h = (C_ d mX5_isDigit [.int x1] h).bind fun r => E_ (d + 1) mX5_next 157 ls (xpu r.1 []) r.2 := e_call dX5_next_154 rfl rfl
theorem wX5_next_157 : E_ d mX5_next 157 ls (.int x :: st) h = if x = 0 then E_ d mX5_next 209 ls st h else E_ d mX5_next 160 ls st h := e_zeq dX5_next_157 rfl rfl
theorem wX5_next_160 : E_ d mX5_next 160 [.val (.ref a)] st h = E_ d mX5_next 161 [.val (.ref a)] (.ref a :: st) h := e_go dX5_next_160 rfl rfl
theorem wX5_next_161 (ht : oT h a = 7) : E_ d mX5_next 161 ls (.ref a :: st) h = E_ d mX5_next 164 ls (.int (oI h a 8) :: st) h := e_getI dX5_next_161 rfl rfl ht
theorem wX5_next_164 : E_ d mX5_next 164 [.val (.ref a)] st h = E_ d mX5_next 165 [.val (.ref a)] (.ref a :: st) h := e_go dX5_next_164 rfl rfl
theorem wX5_next_165 (ht : oT h a = 7) : E_ d mX5_next 165 ls (.ref a :: st) h = E_ d mX5_next 168 ls (.int (oI h a 7) :: st) h := e_getI dX5_next_165 rfl rfl ht
theorem wX5_next_168 : E_ d mX5_next 168 ls (.int y :: .int x :: st) h = E_ d mX5_next 169 ls (.int (x - y) :: st) h := e_go dX5_next_168 rfl rfl
theorem wX5_next_169 : E_ d mX5_next 169 ls st h = E_ d mX5_next 170 ls (.int (nI 3) :: st) h := e_iconst dX5_next_169 kiconst_3 rfl
theorem wX5_next_170 : E_ d mX5_next 170 ls (.int y :: .int x :: st) h = if x < y then E_ d mX5_next 173 ls st h else E_ d mX5_next 196 ls st h := e_ige dX5_next_170 rfl rfl
theorem wX5_next_173 : E_ d mX5_next 173 [.val (.ref a)] st h = E_ d mX5_next 174 [.val (.ref a)] (.ref a :: st) h := e_go dX5_next_173 rfl rfl
theorem wX5_next_174 : E_ d mX5_next 174 ls st h = E_ d mX5_next 176 ls (.int (nI 10) :: st) h := e_bipush dX5_next_174 kbipush_10 rfl
theorem wX5_next_176 : E_ d mX5_next 176 [.val (.ref a)] st h = E_ d mX5_next 177 [.val (.ref a)] (.ref a :: st) h := e_go dX5_next_176 rfl rfl
theorem wX5_next_177 (ht : oT h a = 7) : E_ d mX5_next 177 ls (.ref a :: st) h = E_ d mX5_next 180 ls (.int (oI h a 11) :: st) h := e_getI dX5_next_177 rfl rfl ht
theorem wX5_next_180 : E_ d mX5_next 180 ls (.int y :: .int x :: st) h = E_ d mX5_next 181 ls (.int (x * y) :: st) h := e_go dX5_next_180 rfl rfl
theorem wX5_next_181 : E_ d mX5_next 181 [.val (.ref a)] st h = E_ d mX5_next 182 [.val (.ref a)] (.ref a :: st) h := e_go dX5_next_181 rfl rfl
theorem wX5_next_182 : E_ d mX5_next 182 [.val (.ref a)] st h = E_ d mX5_next 183 [.val (.ref a)] (.ref a :: st) h := e_go dX5_next_182 rfl rfl
theorem wX5_next_183 (ht : oT h a = 7) : E_ d mX5_next 183 ls (.ref a :: st) h = E_ d mX5_next 186 ls (.int (oI h a 8) :: st) h := e_getI dX5_next_183 rfl rfl ht
theorem wX5_next_186 (ht : oT h a = 7) : E_ (d + 1) mX5_next 186 ls [.int x1, .ref a, .int x2, .ref r1] h = (C_ d mX5_see [.ref a, .int x1] h).bind fun r => E_ (d + 1) mX5_next 189 ls (xpu r.1 [.int x2, .ref r1]) r.2 := e_vir dX5_next_186 rfl rfl rfl rfl rfl rfl (Nat.le_of_ble_eq_true rfl) (Nat.le_of_ble_eq_true rfl) ht
theorem wX5_next_189 : E_ d mX5_next 189 ls (.int y :: .int x :: st) h = E_ d mX5_next 190 ls (.int (x + y) :: st) h := e_go dX5_next_189 rfl rfl
theorem wX5_next_190 : E_ d mX5_next 190 ls st h = E_ d mX5_next 192 ls (.int (nI 48) :: st) h := e_bipush dX5_next_190 kbipush_48 rfl
theorem wX5_next_192 : E_ d mX5_next 192 ls (.int y :: .int x :: st) h = E_ d mX5_next 193 ls (.int (x - y) :: st) h := e_go dX5_next_192 rfl rfl
theorem wX5_next_193 (ht : oT h a = 7) : E_ d mX5_next 193 ls (.int x :: .ref a :: st) h = E_ d mX5_next 196 ls st (pI h a (va_up (oI h a) 11 x)) := e_putI dX5_next_193 rfl rfl ht
theorem wX5_next_196 : E_ d mX5_next 196 [.val (.ref a)] st h = E_ d mX5_next 197 [.val (.ref a)] (.ref a :: st) h := e_go dX5_next_196 rfl rfl
theorem wX5_next_197 : E_ d mX5_next 197 ls (.ref a :: st) h = E_ d mX5_next 198 ls (.ref a :: .ref a :: st) h := e_go dX5_next_197 rfl rfl
theorem wX5_next_198 (ht : oT h a = 7) : E_ d mX5_next 198 ls (.ref a :: st) h = E_ d mX5_next 201 ls (.int (oI h a 8) :: st) h := e_getI dX5_next_198 rfl rfl ht
theorem wX5_next_201 : E_ d mX5_next 201 ls st h = E_ d mX5_next 202 ls (.int (nI 1) :: st) h := e_iconst dX5_next_201 kiconst_1 rfl
theorem wX5_next_202 : E_ d mX5_next 202 ls (.int y :: .int x :: st) h = E_ d mX5_next 203 ls (.int (x + y) :: st) h := e_go dX5_next_202 rfl rfl
theorem wX5_next_203 (ht : oT h a = 7) : E_ d mX5_next 203 ls (.int x :: .ref a :: st) h = E_ d mX5_next 206 ls st (pI h a (va_up (oI h a) 8 x)) := e_putI dX5_next_203 rfl rfl ht
theorem wX5_next_206 : E_ d mX5_next 206 ls st h = E_ d mX5_next 146 ls st h := e_gt dX5_next_206 rfl
theorem wX5_next_209 : E_ d mX5_next 209 [.val (.ref a)] st h = E_ d mX5_next 210 [.val (.ref a)] (.ref a :: st) h := e_go dX5_next_209 rfl rfl
theorem wX5_next_210 : E_ d mX5_next 210 [.val (.ref a)] st h = E_ d mX5_next 211 [.val (.ref a)] (.ref a :: st) h := e_go dX5_next_210 rfl rfl
theorem wX5_next_211 (ht : oT h a = 7) : E_ d mX5_next 211 ls (.ref a :: st) h = E_ d mX5_next 214 ls (.int (oI h a 8) :: st) h := e_getI dX5_next_211 rfl rfl ht
theorem wX5_next_214 : E_ d mX5_next 214 [.val (.ref a)] st h = E_ d mX5_next 215 [.val (.ref a)] (.ref a :: st) h := e_go dX5_next_214 rfl rfl
theorem wX5_next_215 (ht : oT h a = 7) : E_ d mX5_next 215 ls (.ref a :: st) h = E_ d mX5_next 218 ls (.int (oI h a 7) :: st) h := e_getI dX5_next_215 rfl rfl ht
theorem wX5_next_218 : E_ d mX5_next 218 ls (.int y :: .int x :: st) h = E_ d mX5_next 219 ls (.int (x - y) :: st) h := e_go dX5_next_218 rfl rfl
theorem wX5_next_219 : E_ d mX5_next 219 ls st h = E_ d mX5_next 220 ls (.int (nI 3) :: st) h := e_iconst dX5_next_219 kiconst_3 rfl
theorem wX5_next_220 : E_ d mX5_next 220 ls (.int y :: .int x :: st) h = if y < x then E_ d mX5_next 223 ls st h else E_ d mX5_next 228 ls st h := e_ile dX5_next_220 rfl rfl
theorem wX5_next_223 : E_ d mX5_next 223 ls st h = E_ d mX5_next 225 ls (.int (nI 35) :: st) h := e_bipush dX5_next_223 kbipush_35 rfl
theorem wX5_next_225 : E_ d mX5_next 225 ls st h = E_ d mX5_next 230 ls st h := e_gt dX5_next_225 rfl
theorem wX5_next_228 : E_ d mX5_next 228 ls st h = E_ d mX5_next 230 ls (.int (nI 30) :: st) h := e_bipush dX5_next_228 kbipush_30 rfl
theorem wX5_next_230 (ht : oT h a = 7) : E_ d mX5_next 230 ls (.int x :: .ref a :: st) h = E_ d mX5_next 233 ls st (pI h a (va_up (oI h a) 10 x)) := e_putI dX5_next_230 rfl rfl ht
theorem wX5_next_233 : E_ d mX5_next 233 ls st h = E_ d mX5_next 306 ls st h := e_gt dX5_next_233 rfl
theorem wX5_next_236 : E_ d mX5_next 236 [.val (.ref a)] st h = E_ d mX5_next 237 [.val (.ref a)] (.ref a :: st) h := e_go dX5_next_236 rfl rfl
theorem wX5_next_237 : E_ d mX5_next 237 ls (.ref a :: st) h = E_ d mX5_next 238 ls (.ref a :: .ref a :: st) h := e_go dX5_next_237 rfl rfl
theorem wX5_next_238 (ht : oT h a = 7) : E_ d mX5_next 238 ls (.ref a :: st) h = E_ d mX5_next 241 ls (.int (oI h a 8) :: st) h := e_getI dX5_next_238 rfl rfl ht
theorem wX5_next_241 : E_ d mX5_next 241 ls st h = E_ d mX5_next 242 ls (.int (nI 1) :: st) h := e_iconst dX5_next_241 kiconst_1 rfl
theorem wX5_next_242 : E_ d mX5_next 242 ls (.int y :: .int x :: st) h = E_ d mX5_next 243 ls (.int (x + y) :: st) h := e_go dX5_next_242 rfl rfl
theorem wX5_next_243 (ht : oT h a = 7) : E_ d mX5_next 243 ls (.int x :: .ref a :: st) h = E_ d mX5_next 246 ls st (pI h a (va_up (oI h a) 8 x)) := e_putI dX5_next_243 rfl rfl ht
theorem wX5_next_246 : E_ d mX5_next 246 [.val (.ref a)] st h = E_ d mX5_next 247 [.val (.ref a)] (.ref a :: st) h := e_go dX5_next_246 rfl rfl
theorem wX5_next_247 : E_ d mX5_next 247 [.val (.ref a)] st h = E_ d mX5_next 248 [.val (.ref a)] (.ref a :: st) h := e_go dX5_next_247 rfl rfl
theorem wX5_next_248 : E_ d mX5_next 248 [.val (.ref a)] st h = E_ d mX5_next 249 [.val (.ref a)] (.ref a :: st) h := e_go dX5_next_248 rfl rfl
theorem wX5_next_249 (ht : oT h a = 7) : E_ d mX5_next 249 ls (.ref a :: st) h = E_ d mX5_next 252 ls (.int (oI h a 7) :: st) h := e_getI dX5_next_249 rfl rfl ht
theorem wX5_next_252 (ht : oT h a = 7) : E_ (d + 1) mX5_next 252 ls [.int x1, .ref a, .ref r1] h = (C_ d mX5_see [.ref a, .int x1] h).bind fun r => E_ (d + 1) mX5_next 255 ls (xpu r.1 [.ref r1]) r.2 := e_vir dX5_next_252 rfl rfl rfl rfl rfl rfl (Nat.le_of_ble_eq_true rfl) (Nat.le_of_ble_eq_true rfl) ht
theorem wX5_next_255 : E_ d mX5_next 255 ls st h = E_ d mX5_next 257 ls (.int (nI 59) :: st) h := e_bipush dX5_next_255 kbipush_59 rfl
theorem wX5_next_257 : E_ d mX5_next 257 ls (.int y :: .int x :: st) h = if x = y then E_ d mX5_next 260 ls st h else E_ d mX5_next 265 ls st h := e_ine dX5_next_257 rfl rfl
theorem wX5_next_260 : E_ d mX5_next 260 ls st h = E_ d mX5_next 262 ls (.int (nI 31) :: st) h := e_bipush dX5_next_260 kbipush_31 rfl
theorem wX5_next_262 : E_ d mX5_next 262 ls st h = E_ d mX5_next 303 ls st h := e_gt dX5_next_262 rfl
theorem wX5_next_265 : E_ d mX5_next 265 [.val (.ref a)] st h = E_ d mX5_next 266 [.val (.ref a)] (.ref a :: st) h := e_go dX5_next_265 rfl rfl
theorem wX5_next_266 : E_ d mX5_next 266 [.val (.ref a)] st h = E_ d mX5_next 267 [.val (.ref a)] (.ref a :: st) h := e_go dX5_next_266 rfl rfl
theorem wX5_next_267 (ht : oT h a = 7) : E_ d mX5_next 267 ls (.ref a :: st) h = E_ d mX5_next 270 ls (.int (oI h a 7) :: st) h := e_getI dX5_next_267 rfl rfl ht
theorem wX5_next_270 (ht : oT h a = 7) : E_ (d + 1) mX5_next 270 ls [.int x1, .ref a, .ref r1] h = (C_ d mX5_see [.ref a, .int x1] h).bind fun r => E_ (d + 1) mX5_next 273 ls (xpu r.1 [.ref r1]) r.2 := e_vir dX5_next_270 rfl rfl rfl rfl rfl rfl (Nat.le_of_ble_eq_true rfl) (Nat.le_of_ble_eq_true rfl) ht
theorem wX5_next_273 : E_ d mX5_next 273 ls st h = E_ d mX5_next 275 ls (.int (nI 40) :: st) h := e_bipush dX5_next_273 kbipush_40 rfl
theorem wX5_next_275 : E_ d mX5_next 275 ls (.int y :: .int x :: st) h = if x = y then E_ d mX5_next 278 ls st h else E_ d mX5_next 283 ls st h := e_ine dX5_next_275 rfl rfl
theorem wX5_next_278 : E_ d mX5_next 278 ls st h = E_ d mX5_next 280 ls (.int (nI 32) :: st) h := e_bipush dX5_next_278 kbipush_32 rfl
theorem wX5_next_280 : E_ d mX5_next 280 ls st h = E_ d mX5_next 303 ls st h := e_gt dX5_next_280 rfl
theorem wX5_next_283 : E_ d mX5_next 283 [.val (.ref a)] st h = E_ d mX5_next 284 [.val (.ref a)] (.ref a :: st) h := e_go dX5_next_283 rfl rfl
theorem wX5_next_284 : E_ d mX5_next 284 [.val (.ref a)] st h = E_ d mX5_next 285 [.val (.ref a)] (.ref a :: st) h := e_go dX5_next_284 rfl rfl
theorem wX5_next_285 (ht : oT h a = 7) : E_ d mX5_next 285 ls (.ref a :: st) h = E_ d mX5_next 288 ls (.int (oI h a 7) :: st) h := e_getI dX5_next_285 rfl rfl ht
theorem wX5_next_288 (ht : oT h a = 7) : E_ (d + 1) mX5_next 288 ls [.int x1, .ref a, .ref r1] h = (C_ d mX5_see [.ref a, .int x1] h).bind fun r => E_ (d + 1) mX5_next 291 ls (xpu r.1 [.ref r1]) r.2 := e_vir dX5_next_288 rfl rfl rfl rfl rfl rfl (Nat.le_of_ble_eq_true rfl) (Nat.le_of_ble_eq_true rfl) ht
theorem wX5_next_291 : E_ d mX5_next 291 ls st h = E_ d mX5_next 293 ls (.int (nI 41) :: st) h := e_bipush dX5_next_291 kbipush_41 rfl
theorem wX5_next_293 : E_ d mX5_next 293 ls (.int y :: .int x :: st) h = if x = y then E_ d mX5_next 296 ls st h else E_ d mX5_next 301 ls st h := e_ine dX5_next_293 rfl rfl
theorem wX5_next_296 : E_ d mX5_next 296 ls st h = E_ d mX5_next 298 ls (.int (nI 33) :: st) h := e_bipush dX5_next_296 kbipush_33 rfl
theorem wX5_next_298 : E_ d mX5_next 298 ls st h = E_ d mX5_next 303 ls st h := e_gt dX5_next_298 rfl
theorem wX5_next_301 : E_ d mX5_next 301 ls st h = E_ d mX5_next 303 ls (.int (nI 35) :: st) h := e_bipush dX5_next_301 kbipush_35 rfl
theorem wX5_next_303 (ht : oT h a = 7) : E_ d mX5_next 303 ls (.int x :: .ref a :: st) h = E_ d mX5_next 306 ls st (pI h a (va_up (oI h a) 10 x)) := e_putI dX5_next_303 rfl rfl ht
theorem wX5_next_306 : E_ d mX5_next 306 ls [] h = some (none, h) := e_rt dX5_next_306 rfl rfl
/-! FootOutModel.see -/
theorem wX5_see_0 : E_ d mX5_see 0 [s0, .val (.int x)] st h = E_ d mX5_see 1 [s0, .val (.int x)] (.int x :: st) h := e_go dX5_see_0 rfl rfl
theorem wX5_see_1 : E_ d mX5_see 1 [.val (.ref a), s1] st h = E_ d mX5_see 2 [.val (.ref a), s1] (.ref a :: st) h := e_go dX5_see_1 rfl rfl
theorem wX5_see_2 (ht : oT h a = 7) : E_ d mX5_see 2 ls (.ref a :: st) h = E_ d mX5_see 5 ls (.int (oI h a 9) :: st) h := e_getI dX5_see_2 rfl rfl ht
theorem wX5_see_5 : E_ d mX5_see 5 ls (.int y :: .int x :: st) h = if x < y then E_ d mX5_see 8 ls st h else E_ d mX5_see 17 ls st h := e_ige dX5_see_5 rfl rfl
theorem wX5_see_8 : E_ d mX5_see 8 [.val (.ref a), s1] st h = E_ d mX5_see 9 [.val (.ref a), s1] (.ref a :: st) h := e_go dX5_see_8 rfl rfl
theorem wX5_see_9 (ht : oT h a = 7) : E_ d mX5_see 9 ls (.ref a :: st) h = E_ d mX5_see 12 ls (va_rf (oR h a 4) :: st) h := e_getR0 dX5_see_9 rfl rfl ht
theorem wX5_see_12 : E_ d mX5_see 12 [s0, .val (.int x)] st h = E_ d mX5_see 13 [s0, .val (.int x)] (.int x :: st) h := e_go dX5_see_12 rfl rfl
theorem wX5_see_13 (ht : oT h a = 40) (hi : xix x (oN h a) = true) : E_ d mX5_see 13 ls (.int x :: .ref a :: st) h = E_ d mX5_see 14 ls (.int (oI h a x.toNatClampNeg) :: st) h := e_iald dX5_see_13 rfl ht hi
theorem wX5_see_14 : E_ d mX5_see 14 ls st h = E_ d mX5_see 18 ls st h := e_gt dX5_see_14 rfl
theorem wX5_see_17 : E_ d mX5_see 17 ls st h = E_ d mX5_see 18 ls (.int ((-1)) :: st) h := e_iconst dX5_see_17 kiconst_m1 rfl
theorem wX5_see_18 : E_ d mX5_see 18 ls [.int x] h = some (some (.int x), h) := e_rt dX5_see_18 rfl rfl
/-! FootOutModel.isSmall -/
theorem wX5_isSmall_0 : E_ d mX5_isSmall 0 [.val (.int x)] st h = E_ d mX5_isSmall 1 [.val (.int x)] (.int x :: st) h := e_go dX5_isSmall_0 rfl rfl
theorem wX5_isSmall_1 : E_ d mX5_isSmall 1 ls st h = E_ d mX5_isSmall 3 ls (.int (nI 97) :: st) h := e_bipush dX5_isSmall_1 kbipush_97 rfl
theorem wX5_isSmall_3 : E_ d mX5_isSmall 3 ls (.int y :: .int x :: st) h = if x < y then E_ d mX5_isSmall 16 ls st h else E_ d mX5_isSmall 6 ls st h := e_ilt dX5_isSmall_3 rfl rfl
theorem wX5_isSmall_6 : E_ d mX5_isSmall 6 [.val (.int x)] st h = E_ d mX5_isSmall 7 [.val (.int x)] (.int x :: st) h := e_go dX5_isSmall_6 rfl rfl
theorem wX5_isSmall_7 : E_ d mX5_isSmall 7 ls st h = E_ d mX5_isSmall 9 ls (.int (nI 122) :: st) h := e_bipush dX5_isSmall_7 kbipush_122 rfl
theorem wX5_isSmall_9 : E_ d mX5_isSmall 9 ls (.int y :: .int x :: st) h = if y < x then E_ d mX5_isSmall 16 ls st h else E_ d mX5_isSmall 12 ls st h := e_igt dX5_isSmall_9 rfl rfl
theorem wX5_isSmall_12 : E_ d mX5_isSmall 12 ls st h = E_ d mX5_isSmall 13 ls (.int (nI 1) :: st) h := e_iconst dX5_isSmall_12 kiconst_1 rfl
theorem wX5_isSmall_13 : E_ d mX5_isSmall 13 ls st h = E_ d mX5_isSmall 17 ls st h := e_gt dX5_isSmall_13 rfl
theorem wX5_isSmall_16 : E_ d mX5_isSmall 16 ls st h = E_ d mX5_isSmall 17 ls (.int (nI 0) :: st) h := e_iconst dX5_isSmall_16 kiconst_0 rfl
theorem wX5_isSmall_17 (hx : x = 0 ∨ x = 1) : E_ d mX5_isSmall 17 ls [.int x] h = some (some (.int x), h) := e_rtZ dX5_isSmall_17 rfl hx
/-! FootOutModel.keyAt -/
theorem wX5_keyAt_0 : E_ d mX5_keyAt 0 ls st h = E_ d mX5_keyAt 1 ls (.int (nI 0) :: st) h := e_iconst dX5_keyAt_0 kiconst_0 rfl
theorem wX5_keyAt_1 : E_ d mX5_keyAt 1 [s0, s1, s2, s3] (.int x :: st) h = E_ d mX5_keyAt 2 [xk s0, .val (.int x), s2, s3] st h := e_go dX5_keyAt_1 rfl rfl
theorem wX5_keyAt_2 : E_ d mX5_keyAt 2 ls st h = E_ d mX5_keyAt 3 ls (.int (nI 1) :: st) h := e_iconst dX5_keyAt_2 kiconst_1 rfl
theorem wX5_keyAt_3 : E_ d mX5_keyAt 3 [s0, s1, s2, s3] (.int x :: st) h = E_ d mX5_keyAt 4 [s0, xk s1, .val (.int x), s3] st h := e_go dX5_keyAt_3 rfl rfl
theorem wX5_keyAt_4 : E_ d mX5_keyAt 4 [s0, s1, .val (.int x), s3] st h = E_ d mX5_keyAt 5 [s0, s1, .val (.int x), s3] (.int x :: st) h := e_go dX5_keyAt_4 rfl rfl
theorem wX5_keyAt_5 : E_ d mX5_keyAt 5 ls st h = E_ d mX5_keyAt 7 ls (.ref 30 :: st) h := e_go dX5_keyAt_5 rfl rfl
theorem wX5_keyAt_7 (ht : oT h a = 38) : E_ d mX5_keyAt 7 ls [.ref a, .int x1] h = (xP 0 [.ref a] h).bind fun r => E_ d mX5_keyAt 10 ls (xpu r.1 [.int x1]) r.2 := e_virP dX5_keyAt_7 rfl rfl rfl rfl rfl rfl (Nat.le_of_ble_eq_true rfl) ht
theorem wX5_keyAt_10 : E_ d mX5_keyAt 10 ls (.int y :: .int x :: st) h = if x < y then E_ d mX5_keyAt 13 ls st h else E_ d mX5_keyAt 123 ls st h := e_ige dX5_keyAt_10 rfl rfl
theorem wX5_keyAt_13 : E_ d mX5_keyAt 13 ls st h = E_ d mX5_keyAt 14 ls (.int (nI 0) :: st) h := e_iconst dX5_keyAt_13 kiconst_0 rfl
theorem wX5_keyAt_14 : E_ d mX5_keyAt 14 [s0, s1, s2, s3] (.int x :: st) h = E_ d mX5_keyAt 15 [s0, s1, xk s2, .val (.int x)] st h := e_go dX5_keyAt_14 rfl rfl
theorem wX5_keyAt_15 : E_ d mX5_keyAt 15 ls st h = E_ d mX5_keyAt 17 ls (.ref 30 :: st) h := e_go dX5_keyAt_15 rfl rfl
theorem wX5_keyAt_17 : E_ d mX5_keyAt 17 [s0, s1, .val (.int x), s3] st h = E_ d mX5_keyAt 18 [s0, s1, .val (.int x), s3] (.int x :: st) h := e_go dX5_keyAt_17 rfl rfl
theorem wX5_keyAt_18 : E_ d mX5_keyAt 18 [s0, s1, s2, .val (.int x)] st h = E_ d mX5_keyAt 19 [s0, s1, s2, .val (.int x)] (.int x :: st) h := e_go dX5_keyAt_18 rfl rfl
theorem wX5_keyAt_19 : E_ d mX5_keyAt 19 ls (.int y :: .int x :: st) h = E_ d mX5_keyAt 20 ls (.int (x + y) :: st) h := e_go dX5_keyAt_19 rfl rfl
theorem wX5_keyAt_20 (ht : oT h a = 38) : E_ d mX5_keyAt 20 ls [.int x1, .ref a] h = (xP 1 [.ref a, .int x1] h).bind fun r => E_ d mX5_keyAt 23 ls (xpu r.1 []) r.2 := e_virP dX5_keyAt_20 rfl rfl rfl rfl rfl rfl (Nat.le_of_ble_eq_true rfl) ht
theorem wX5_keyAt_23 : E_ d mX5_keyAt 23 ls st h = E_ d mX5_keyAt 25 ls (.int (nI 32) :: st) h := e_bipush dX5_keyAt_23 kbipush_32 rfl
theorem wX5_keyAt_25 : E_ d mX5_keyAt 25 ls (.int y :: .int x :: st) h = if x = y then E_ d mX5_keyAt 69 ls st h else E_ d mX5_keyAt 28 ls st h := e_ieq dX5_keyAt_25 rfl rfl
theorem wX5_keyAt_28 : E_ d mX5_keyAt 28 [.val (.ref a), s1, s2, s3] st h = E_ d mX5_keyAt 29 [.val (.ref a), s1, s2, s3] (.ref a :: st) h := e_go dX5_keyAt_28 rfl rfl
theorem wX5_keyAt_29 (ht : oT h a = 7) : E_ d mX5_keyAt 29 ls (.ref a :: st) h = E_ d mX5_keyAt 32 ls (.int (oI h a 7) :: st) h := e_getI dX5_keyAt_29 rfl rfl ht
theorem wX5_keyAt_32 : E_ d mX5_keyAt 32 [s0, s1, s2, .val (.int x)] st h = E_ d mX5_keyAt 33 [s0, s1, s2, .val (.int x)] (.int x :: st) h := e_go dX5_keyAt_32 rfl rfl
theorem wX5_keyAt_33 : E_ d mX5_keyAt 33 ls (.int y :: .int x :: st) h = E_ d mX5_keyAt 34 ls (.int (x + y) :: st) h := e_go dX5_keyAt_33 rfl rfl
theorem wX5_keyAt_34 : E_ d mX5_keyAt 34 [.val (.ref a), s1, s2, s3] st h = E_ d mX5_keyAt 35 [.val (.ref a), s1, s2, s3] (.ref a :: st) h := e_go dX5_keyAt_34 rfl rfl
theorem wX5_keyAt_35 (ht : oT h a = 7) : E_ d mX5_keyAt 35 ls (.ref a :: st) h = E_ d mX5_keyAt 38 ls (.int (oI h a 8) :: st) h := e_getI dX5_keyAt_35 rfl rfl ht
theorem wX5_keyAt_38 : E_ d mX5_keyAt 38 ls (.int y :: .int x :: st) h = if x < y then E_ d mX5_keyAt 41 ls st h else E_ d mX5_keyAt 69 ls st h := e_ige dX5_keyAt_38 rfl rfl
theorem wX5_keyAt_41 : E_ d mX5_keyAt 41 [.val (.ref a), s1, s2, s3] st h = E_ d mX5_keyAt 42 [.val (.ref a), s1, s2, s3] (.ref a :: st) h := e_go dX5_keyAt_41 rfl rfl
theorem wX5_keyAt_42 (ht : oT h a = 7) : E_ d mX5_keyAt 42 ls (.ref a :: st) h = E_ d mX5_keyAt 45 ls (va_rf (oR h a 4) :: st) h := e_getR0 dX5_keyAt_42 rfl rfl ht
theorem wX5_keyAt_45 : E_ d mX5_keyAt 45 [.val (.ref a), s1, s2, s3] st h = E_ d mX5_keyAt 46 [.val (.ref a), s1, s2, s3] (.ref a :: st) h := e_go dX5_keyAt_45 rfl rfl
theorem wX5_keyAt_46 (ht : oT h a = 7) : E_ d mX5_keyAt 46 ls (.ref a :: st) h = E_ d mX5_keyAt 49 ls (.int (oI h a 7) :: st) h := e_getI dX5_keyAt_46 rfl rfl ht
theorem wX5_keyAt_49 : E_ d mX5_keyAt 49 [s0, s1, s2, .val (.int x)] st h = E_ d mX5_keyAt 50 [s0, s1, s2, .val (.int x)] (.int x :: st) h := e_go dX5_keyAt_49 rfl rfl
theorem wX5_keyAt_50 : E_ d mX5_keyAt 50 ls (.int y :: .int x :: st) h = E_ d mX5_keyAt 51 ls (.int (x + y) :: st) h := e_go dX5_keyAt_50 rfl rfl
theorem wX5_keyAt_51 (ht : oT h a = 40) (hi : xix x (oN h a) = true) : E_ d mX5_keyAt 51 ls (.int x :: .ref a :: st) h = E_ d mX5_keyAt 52 ls (.int (oI h a x.toNatClampNeg) :: st) h := e_iald dX5_keyAt_51 rfl ht hi
theorem wX5_keyAt_52 : E_ d mX5_keyAt 52 ls st h = E_ d mX5_keyAt 54 ls (.ref 30 :: st) h := e_go dX5_keyAt_52 rfl rfl
theorem wX5_keyAt_54 : E_ d mX5_keyAt 54 [s0, s1, .val (.int x), s3] st h = E_ d mX5_keyAt 55 [s0, s1, .val (.int x), s3] (.int x :: st) h := e_go dX5_keyAt_54 rfl rfl
theorem wX5_keyAt_55 : E_ d mX5_keyAt 55 [s0, s1, s2, .val (.int x)] st h = E_ d mX5_keyAt 56 [s0, s1, s2, .val (.int x)] (.int x :: st) h := e_go dX5_keyAt_55 rfl rfl
theorem wX5_keyAt_56 : E_ d mX5_keyAt 56 ls (.int y :: .int x :: st) h = E_ d mX5_keyAt 57 ls (.int (x + y) :: st) h := e_go dX5_keyAt_56 rfl rfl
theorem wX5_keyAt_57 (ht : oT h a = 38) : E_ d mX5_keyAt 57 ls [.int x1, .ref a, .int x2] h = (xP 1 [.ref a, .int x1] h).bind fun r => E_ d mX5_keyAt 60 ls (xpu r.1 [.int x2]) r.2 := e_virP dX5_keyAt_57 rfl rfl rfl rfl rfl rfl (Nat.le_of_ble_eq_true rfl) ht
theorem wX5_keyAt_60 : E_ d mX5_keyAt 60 ls (.int y :: .int x :: st) h = if x = y then E_ d mX5_keyAt 63 ls st h else E_ d mX5_keyAt 69 ls st h := e_ine dX5_keyAt_60 rfl rfl
theorem wX5_keyAt_63 : E_ d mX5_keyAt 63 [s0, s1, s2, .val (.int x)] st h = E_ d mX5_keyAt 66 [s0, s1, xk s2, .val (.int (x + nI 1))] st h := by rw [← kiinc_1]; exact e_go dX5_keyAt_63 rfl rfl
theorem wX5_keyAt_66 : E_ d mX5_keyAt 66 ls st h = E_ d mX5_keyAt 15 ls st h := e_gt dX5_keyAt_66 rfl
theorem wX5_keyAt_69 : E_ d mX5_keyAt 69 ls st h = E_ d mX5_keyAt 71 ls (.ref 30 :: st) h := e_go dX5_keyAt_69 rfl rfl
theorem wX5_keyAt_71 : E_ d mX5_keyAt 71 [s0, s1, .val (.int x), s3] st h = E_ d mX5_keyAt 72 [s0, s1, .val (.int x), s3] (.int x :: st) h := e_go dX5_keyAt_71 rfl rfl
theorem wX5_keyAt_72 : E_ d mX5_keyAt 72 [s0, s1, s2, .val (.int x)] st h = E_ d mX5_keyAt 73 [s0, s1, s2, .val (.int x)] (.int x :: st) h := e_go dX5_keyAt_72 rfl rfl
theorem wX5_keyAt_73 : E_ d mX5_keyAt 73 ls (.int y :: .int x :: st) h = E_ d mX5_keyAt 74 ls (.int (x + y) :: st) h := e_go dX5_keyAt_73 rfl rfl
theorem wX5_keyAt_74 (ht : oT h a = 38) : E_ d mX5_keyAt 74 ls [.int x1, .ref a] h = (xP 1 [.ref a, .int x1] h).bind fun r => E_ d mX5_keyAt 77 ls (xpu r.1 []) r.2 := e_virP dX5_keyAt_74 rfl rfl rfl rfl rfl rfl (Nat.le_of_ble_eq_true rfl) ht
theorem wX5_keyAt_77 : E_ d mX5_keyAt 77 ls st h = E_ d mX5_keyAt 79 ls (.int (nI 32) :: st) h := e_bipush dX5_keyAt_77 kbipush_32 rfl
theorem wX5_keyAt_79 : E_ d mX5_keyAt 79 ls (.int y :: .int x :: st) h = if x = y then E_ d mX5_keyAt 82 ls st h else E_ d mX5_keyAt 97 ls st h := e_ine dX5_keyAt_79 rfl rfl
theorem wX5_keyAt_82 : E_ d mX5_keyAt 82 [.val (.ref a), s1, s2, s3] st h = E_ d mX5_keyAt 83 [.val (.ref a), s1, s2, s3] (.ref a :: st) h := e_go dX5_keyAt_82 rfl rfl
theorem wX5_keyAt_83 (ht : oT h a = 7) : E_ d mX5_keyAt 83 ls (.ref a :: st) h = E_ d mX5_keyAt 86 ls (.int (oI h a 7) :: st) h := e_getI dX5_keyAt_83 rfl rfl ht
theorem wX5_keyAt_86 : E_ d mX5_keyAt 86 [s0, s1, s2, .val (.int x)] st h = E_ d mX5_keyAt 87 [s0, s1, s2, .val (.int x)] (.int x :: st) h := e_go dX5_keyAt_86 rfl rfl
theorem wX5_keyAt_87 : E_ d mX5_keyAt 87 ls (.int y :: .int x :: st) h = E_ d mX5_keyAt 88 ls (.int (x + y) :: st) h := e_go dX5_keyAt_87 rfl rfl
theorem wX5_keyAt_88 : E_ d mX5_keyAt 88 [.val (.ref a), s1, s2, s3] st h = E_ d mX5_keyAt 89 [.val (.ref a), s1, s2, s3] (.ref a :: st) h := e_go dX5_keyAt_88 rfl rfl
theorem wX5_keyAt_89 (ht : oT h a = 7) : E_ d mX5_keyAt 89 ls (.ref a :: st) h = E_ d mX5_keyAt 92 ls (.int (oI h a 8) :: st) h := e_getI dX5_keyAt_89 rfl rfl ht
theorem wX5_keyAt_92 : E_ d mX5_keyAt 92 ls (.int y :: .int x :: st) h = if x = y then E_ d mX5_keyAt 95 ls st h else E_ d mX5_keyAt 97 ls st h := e_ine dX5_keyAt_92 rfl rfl
theorem wX5_keyAt_95 : E_ d mX5_keyAt 95 [s0, .val (.int x), s2, s3] st h = E_ d mX5_keyAt 96 [s0, .val (.int x), s2, s3] (.int x :: st) h := e_go dX5_keyAt_95 rfl rfl
theorem wX5_keyAt_96 : E_ d mX5_keyAt 96 ls [.int x] h = some (some (.int x), h) := e_rt dX5_keyAt_96 rfl rfl
theorem wX5_keyAt_97 : E_ d mX5_keyAt 97 ls st h = E_ d mX5_keyAt 99 ls (.ref 30 :: st) h := e_go dX5_keyAt_97 rfl rfl
theorem wX5_keyAt_99 : E_ d mX5_keyAt 99 [s0, s1, .val (.int x), s3] st h = E_ d mX5_keyAt 100 [s0, s1, .val (.int x), s3] (.int x :: st) h := e_go dX5_keyAt_99 rfl rfl
theorem wX5_keyAt_100 (ht : oT h a = 38) : E_ d mX5_keyAt 100 ls [.int x1, .ref a] h = (xP 1 [.ref a, .int x1] h).bind fun r => E_ d mX5_keyAt 103 ls (xpu r.1 []) r.2 := e_virP dX5_keyAt_100 rfl rfl rfl rfl rfl rfl (Nat.le_of_ble_eq_true rfl) ht
theorem wX5_keyAt_103 : E_ d mX5_keyAt 103 ls st h = E_ d mX5_keyAt 105 ls (.int (nI 32) :: st) h := e_bipush dX5_keyAt_103 kbipush_32 rfl
theorem wX5_keyAt_105 : E_ d mX5_keyAt 105 ls (.int y :: .int x :: st) h = if x = y then E_ d mX5_keyAt 114 ls st h else E_ d mX5_keyAt 108 ls st h := e_ieq dX5_keyAt_105 rfl rfl
theorem wX5_keyAt_108 : E_ d mX5_keyAt 108 [s0, s1, .val (.int x), s3] st h = E_ d mX5_keyAt 111 [s0, xk s1, .val (.int (x + nI 1)), s3] st h := by rw [← kiinc_1]; exact e_go dX5_keyAt_108 rfl rfl
theorem wX5_keyAt_111 : E_ d mX5_keyAt 111 ls st h = E_ d mX5_keyAt 97 ls st h := e_gt dX5_keyAt_111 rfl
theorem wX5_keyAt_114 : E_ d mX5_keyAt 114 [s0, s1, .val (.int x), s3] st h = E_ d mX5_keyAt 117 [s0, xk s1, .val (.int (x + nI 1)), s3] st h := by rw [← kiinc_1]; exact e_go dX5_keyAt_114 rfl rfl
theorem wX5_keyAt_117 : E_ d mX5_keyAt 117 [s0, .val (.int x), s2, s3] st h = E_ d mX5_keyAt 120 [xk s0, .val (.int (x + nI 1)), s2, s3] st h := by rw [← kiinc_1]; exact e_go dX5_keyAt_117 rfl rfl
theorem wX5_keyAt_120 : E_ d mX5_keyAt 120 ls st h = E_ d mX5_keyAt 4 ls st h := e_gt dX5_keyAt_120 rfl
theorem wX5_keyAt_123 : E_ d mX5_keyAt 123 ls st h = E_ d mX5_keyAt 125 ls (.int (nI 29) :: st) h := e_bipush dX5_keyAt_123 kbipush_29 rfl
theorem wX5_keyAt_125 : E_ d mX5_keyAt 125 ls [.int x] h = some (some (.int x), h) := e_rt dX5_keyAt_125 rfl rfl
/-! FootOutModel.isDigit -/
theorem wX5_isDigit_0 : E_ d mX5_isDigit 0 [.val (.int x)] st h = E_ d mX5_isDigit 1 [.val (.int x)] (.int x :: st) h := e_go dX5_isDigit_0 rfl rfl
theorem wX5_isDigit_1 : E_ d mX5_isDigit 1 ls st h = E_ d mX5_isDigit 3 ls (.int (nI 48) :: st) h := e_bipush dX5_isDigit_1 kbipush_48 rfl
theorem wX5_isDigit_3 : E_ d mX5_isDigit 3 ls (.int y :: .int x :: st) h = if x < y then E_ d mX5_isDigit 16 ls st h else E_ d mX5_isDigit 6 ls st h := e_ilt dX5_isDigit_3 rfl rfl
theorem wX5_isDigit_6 : E_ d mX5_isDigit 6 [.val (.int x)] st h = E_ d mX5_isDigit 7 [.val (.int x)] (.int x :: st) h := e_go dX5_isDigit_6 rfl rfl
theorem wX5_isDigit_7 : E_ d mX5_isDigit 7 ls st h = E_ d mX5_isDigit 9 ls (.int (nI 57) :: st) h := e_bipush dX5_isDigit_7 kbipush_57 rfl
theorem wX5_isDigit_9 : E_ d mX5_isDigit 9 ls (.int y :: .int x :: st) h = if y < x then E_ d mX5_isDigit 16 ls st h else E_ d mX5_isDigit 12 ls st h := e_igt dX5_isDigit_9 rfl rfl
theorem wX5_isDigit_12 : E_ d mX5_isDigit 12 ls st h = E_ d mX5_isDigit 13 ls (.int (nI 1) :: st) h := e_iconst dX5_isDigit_12 kiconst_1 rfl
theorem wX5_isDigit_13 : E_ d mX5_isDigit 13 ls st h = E_ d mX5_isDigit 17 ls st h := e_gt dX5_isDigit_13 rfl
theorem wX5_isDigit_16 : E_ d mX5_isDigit 16 ls st h = E_ d mX5_isDigit 17 ls (.int (nI 0) :: st) h := e_iconst dX5_isDigit_16 kiconst_0 rfl
theorem wX5_isDigit_17 (hx : x = 0 ∨ x = 1) : E_ d mX5_isDigit 17 ls [.int x] h = some (some (.int x), h) := e_rtZ dX5_isDigit_17 rfl hx
/-! FootOutModel.readLine -/
theorem wX5_readLine_0 : E_ d mX5_readLine 0 [.val (.ref a)] st h = E_ d mX5_readLine 1 [.val (.ref a)] (.ref a :: st) h := e_go dX5_readLine_0 rfl rfl
theorem wX5_readLine_1 : E_ d mX5_readLine 1 ls st h = E_ d mX5_readLine 2 ls (.int (nI 0) :: st) h := e_iconst dX5_readLine_1 kiconst_0 rfl
theorem wX5_readLine_2 (ht : oT h a = 7) : E_ (d + 1) mX5_readLine 2 ls [.int x1, .ref a] h = (C_ d mX5_eats [.ref a, .int x1] h).bind fun r => E_ (d + 1) mX5_readLine 5 ls (xpu r.1 []) r.2 := e_vir dX5_readLine_2 rfl rfl rfl rfl rfl rfl (Nat.le_of_ble_eq_true rfl) (Nat.le_of_ble_eq_true rfl) ht
theorem wX5_readLine_5 : E_ d mX5_readLine 5 ls (.int x :: st) h = if x = 0 then E_ d mX5_readLine 26 ls st h else E_ d mX5_readLine 8 ls st h := e_zeq dX5_readLine_5 rfl rfl
theorem wX5_readLine_8 : E_ d mX5_readLine 8 [.val (.ref a)] st h = E_ d mX5_readLine 9 [.val (.ref a)] (.ref a :: st) h := e_go dX5_readLine_8 rfl rfl
theorem wX5_readLine_9 (ht : oT h a = 7) : E_ d mX5_readLine 9 ls (.ref a :: st) h = E_ d mX5_readLine 12 ls (va_rf (oR h a 5) :: st) h := e_getR0 dX5_readLine_9 rfl rfl ht
theorem wX5_readLine_12 : E_ d mX5_readLine 12 ls st h = E_ d mX5_readLine 13 ls (.int (nI 0) :: st) h := e_iconst dX5_readLine_12 kiconst_0 rfl
theorem wX5_readLine_13 : E_ d mX5_readLine 13 [.val (.ref a)] st h = E_ d mX5_readLine 14 [.val (.ref a)] (.ref a :: st) h := e_go dX5_readLine_13 rfl rfl
theorem wX5_readLine_14 : E_ d mX5_readLine 14 [.val (.ref a)] st h = E_ d mX5_readLine 15 [.val (.ref a)] (.ref a :: st) h := e_go dX5_readLine_14 rfl rfl
theorem wX5_readLine_15 (ht : oT h a = 7) : E_ (d + 1) mX5_readLine 15 ls [.ref a, .ref r1, .int x1, .ref r2] h = (C_ d mX5_lanesNeeded [.ref a] h).bind fun r => E_ (d + 1) mX5_readLine 18 ls (xpu r.1 [.ref r1, .int x1, .ref r2]) r.2 := e_vir dX5_readLine_15 rfl rfl rfl rfl rfl rfl (Nat.le_of_ble_eq_true rfl) (Nat.le_of_ble_eq_true rfl) ht
theorem wX5_readLine_18 : E_ d mX5_readLine 18 ls st h = E_ d mX5_readLine 19 ls (.int (nI 4) :: st) h := e_iconst dX5_readLine_18 kiconst_4 rfl
theorem wX5_readLine_19 (ht : oT h a = 7) : E_ (d + 1) mX5_readLine 19 ls [.int x2, .int x1, .ref a, .int x3, .ref r1] h = (C_ d mX5_takes [.ref a, .int x1, .int x2] h).bind fun r => E_ (d + 1) mX5_readLine 22 ls (xpu r.1 [.int x3, .ref r1]) r.2 := e_vir dX5_readLine_19 rfl rfl rfl rfl rfl rfl (Nat.le_of_ble_eq_true rfl) (Nat.le_of_ble_eq_true rfl) ht
theorem wX5_readLine_22 (ht : oT h a = 40) (hi : xix x (oN h a) = true) : E_ d mX5_readLine 22 ls (.int y :: .int x :: .ref a :: st) h = E_ d mX5_readLine 23 ls st (pI h a (va_up (oI h a) x.toNatClampNeg y)) := e_iast dX5_readLine_22 rfl ht hi
theorem wX5_readLine_23 : E_ d mX5_readLine 23 ls st h = E_ d mX5_readLine 150 ls st h := e_gt dX5_readLine_23 rfl
theorem wX5_readLine_26 : E_ d mX5_readLine 26 [.val (.ref a)] st h = E_ d mX5_readLine 27 [.val (.ref a)] (.ref a :: st) h := e_go dX5_readLine_26 rfl rfl
theorem wX5_readLine_27 : E_ d mX5_readLine 27 ls st h = E_ d mX5_readLine 28 ls (.int (nI 1) :: st) h := e_iconst dX5_readLine_27 kiconst_1 rfl
theorem wX5_readLine_28 (ht : oT h a = 7) : E_ (d + 1) mX5_readLine 28 ls [.int x1, .ref a] h = (C_ d mX5_is [.ref a, .int x1] h).bind fun r => E_ (d + 1) mX5_readLine 31 ls (xpu r.1 []) r.2 := e_vir dX5_readLine_28 rfl rfl rfl rfl rfl rfl (Nat.le_of_ble_eq_true rfl) (Nat.le_of_ble_eq_true rfl) ht
theorem wX5_readLine_31 : E_ d mX5_readLine 31 ls (.int x :: st) h = if x = 0 then E_ d mX5_readLine 41 ls st h else E_ d mX5_readLine 34 ls st h := e_zeq dX5_readLine_31 rfl rfl
theorem wX5_readLine_34 : E_ d mX5_readLine 34 [.val (.ref a)] st h = E_ d mX5_readLine 35 [.val (.ref a)] (.ref a :: st) h := e_go dX5_readLine_34 rfl rfl
theorem wX5_readLine_35 (ht : oT h a = 7) : E_ (d + 1) mX5_readLine 35 ls [.ref a] h = (C_ d mX5_readCar [.ref a] h).bind fun r => E_ (d + 1) mX5_readLine 38 ls (xpu r.1 []) r.2 := e_vir dX5_readLine_35 rfl rfl rfl rfl rfl rfl (Nat.le_of_ble_eq_true rfl) (Nat.le_of_ble_eq_true rfl) ht
theorem wX5_readLine_38 : E_ d mX5_readLine 38 ls st h = E_ d mX5_readLine 150 ls st h := e_gt dX5_readLine_38 rfl
theorem wX5_readLine_41 : E_ d mX5_readLine 41 [.val (.ref a)] st h = E_ d mX5_readLine 42 [.val (.ref a)] (.ref a :: st) h := e_go dX5_readLine_41 rfl rfl
theorem wX5_readLine_42 : E_ d mX5_readLine 42 ls st h = E_ d mX5_readLine 44 ls (.int (nI 13) :: st) h := e_bipush dX5_readLine_42 kbipush_13 rfl
theorem wX5_readLine_44 (ht : oT h a = 7) : E_ (d + 1) mX5_readLine 44 ls [.int x1, .ref a] h = (C_ d mX5_eats [.ref a, .int x1] h).bind fun r => E_ (d + 1) mX5_readLine 47 ls (xpu r.1 []) r.2 := e_vir dX5_readLine_44 rfl rfl rfl rfl rfl rfl (Nat.le_of_ble_eq_true rfl) (Nat.le_of_ble_eq_true rfl) ht
theorem wX5_readLine_47 : E_ d mX5_readLine 47 ls (.int x :: st) h = if x = 0 then E_ d mX5_readLine 67 ls st h else E_ d mX5_readLine 50 ls st h := e_zeq dX5_readLine_47 rfl rfl
theorem wX5_readLine_50 : E_ d mX5_readLine 50 [.val (.ref a)] st h = E_ d mX5_readLine 51 [.val (.ref a)] (.ref a :: st) h := e_go dX5_readLine_50 rfl rfl
theorem wX5_readLine_51 (ht : oT h a = 7) : E_ d mX5_readLine 51 ls (.ref a :: st) h = E_ d mX5_readLine 54 ls (va_rf (oR h a 5) :: st) h := e_getR0 dX5_readLine_51 rfl rfl ht
theorem wX5_readLine_54 : E_ d mX5_readLine 54 ls st h = E_ d mX5_readLine 56 ls (.int (nI 35) :: st) h := e_bipush dX5_readLine_54 kbipush_35 rfl
theorem wX5_readLine_56 : E_ d mX5_readLine 56 [.val (.ref a)] st h = E_ d mX5_readLine 57 [.val (.ref a)] (.ref a :: st) h := e_go dX5_readLine_56 rfl rfl
theorem wX5_readLine_57 : E_ d mX5_readLine 57 ls st h = E_ d mX5_readLine 58 ls (.int (nI 0) :: st) h := e_iconst dX5_readLine_57 kiconst_0 rfl
theorem wX5_readLine_58 : E_ d mX5_readLine 58 ls st h = E_ d mX5_readLine 60 ls (.int (nI 30) :: st) h := e_bipush dX5_readLine_58 kbipush_30 rfl
theorem wX5_readLine_60 (ht : oT h a = 7) : E_ (d + 1) mX5_readLine 60 ls [.int x2, .int x1, .ref a, .int x3, .ref r1] h = (C_ d mX5_takes [.ref a, .int x1, .int x2] h).bind fun r => E_ (d + 1) mX5_readLine 63 ls (xpu r.1 [.int x3, .ref r1]) r.2 := e_vir dX5_readLine_60 rfl rfl rfl rfl rfl rfl (Nat.le_of_ble_eq_true rfl) (Nat.le_of_ble_eq_true rfl) ht
theorem wX5_readLine_63 (ht : oT h a = 40) (hi : xix x (oN h a) = true) : E_ d mX5_readLine 63 ls (.int y :: .int x :: .ref a :: st) h = E_ d mX5_readLine 64 ls st (pI h a (va_up (oI h a) x.toNatClampNeg y)) := e_iast dX5_readLine_63 rfl ht hi
theorem wX5_readLine_64 : E_ d mX5_readLine 64 ls st h = E_ d mX5_readLine 150 ls st h := e_gt dX5_readLine_64 rfl
theorem wX5_readLine_67 : E_ d mX5_readLine 67 [.val (.ref a)] st h = E_ d mX5_readLine 68 [.val (.ref a)] (.ref a :: st) h := e_go dX5_readLine_67 rfl rfl
theorem wX5_readLine_68 : E_ d mX5_readLine 68 ls st h = E_ d mX5_readLine 70 ls (.int (nI 14) :: st) h := e_bipush dX5_readLine_68 kbipush_14 rfl
theorem wX5_readLine_70 (ht : oT h a = 7) : E_ (d + 1) mX5_readLine 70 ls [.int x1, .ref a] h = (C_ d mX5_eats [.ref a, .int x1] h).bind fun r => E_ (d + 1) mX5_readLine 73 ls (xpu r.1 []) r.2 := e_vir dX5_readLine_70 rfl rfl rfl rfl rfl rfl (Nat.le_of_ble_eq_true rfl) (Nat.le_of_ble_eq_true rfl) ht
theorem wX5_readLine_73 : E_ d mX5_readLine 73 ls (.int x :: st) h = if x = 0 then E_ d mX5_readLine 93 ls st h else E_ d mX5_readLine 76 ls st h := e_zeq dX5_readLine_73 rfl rfl
theorem wX5_readLine_76 : E_ d mX5_readLine 76 [.val (.ref a)] st h = E_ d mX5_readLine 77 [.val (.ref a)] (.ref a :: st) h := e_go dX5_readLine_76 rfl rfl
theorem wX5_readLine_77 (ht : oT h a = 7) : E_ d mX5_readLine 77 ls (.ref a :: st) h = E_ d mX5_readLine 80 ls (va_rf (oR h a 5) :: st) h := e_getR0 dX5_readLine_77 rfl rfl ht
theorem wX5_readLine_80 : E_ d mX5_readLine 80 ls st h = E_ d mX5_readLine 82 ls (.int (nI 36) :: st) h := e_bipush dX5_readLine_80 kbipush_36 rfl
theorem wX5_readLine_82 : E_ d mX5_readLine 82 [.val (.ref a)] st h = E_ d mX5_readLine 83 [.val (.ref a)] (.ref a :: st) h := e_go dX5_readLine_82 rfl rfl
theorem wX5_readLine_83 : E_ d mX5_readLine 83 ls st h = E_ d mX5_readLine 84 ls (.int (nI 0) :: st) h := e_iconst dX5_readLine_83 kiconst_0 rfl
theorem wX5_readLine_84 : E_ d mX5_readLine 84 ls st h = E_ d mX5_readLine 86 ls (.int (nI 20) :: st) h := e_bipush dX5_readLine_84 kbipush_20 rfl
theorem wX5_readLine_86 (ht : oT h a = 7) : E_ (d + 1) mX5_readLine 86 ls [.int x2, .int x1, .ref a, .int x3, .ref r1] h = (C_ d mX5_takes [.ref a, .int x1, .int x2] h).bind fun r => E_ (d + 1) mX5_readLine 89 ls (xpu r.1 [.int x3, .ref r1]) r.2 := e_vir dX5_readLine_86 rfl rfl rfl rfl rfl rfl (Nat.le_of_ble_eq_true rfl) (Nat.le_of_ble_eq_true rfl) ht
theorem wX5_readLine_89 (ht : oT h a = 40) (hi : xix x (oN h a) = true) : E_ d mX5_readLine 89 ls (.int y :: .int x :: .ref a :: st) h = E_ d mX5_readLine 90 ls st (pI h a (va_up (oI h a) x.toNatClampNeg y)) := e_iast dX5_readLine_89 rfl ht hi
theorem wX5_readLine_90 : E_ d mX5_readLine 90 ls st h = E_ d mX5_readLine 150 ls st h := e_gt dX5_readLine_90 rfl
theorem wX5_readLine_93 : E_ d mX5_readLine 93 [.val (.ref a)] st h = E_ d mX5_readLine 94 [.val (.ref a)] (.ref a :: st) h := e_go dX5_readLine_93 rfl rfl
theorem wX5_readLine_94 : E_ d mX5_readLine 94 ls st h = E_ d mX5_readLine 96 ls (.int (nI 15) :: st) h := e_bipush dX5_readLine_94 kbipush_15 rfl
theorem wX5_readLine_96 (ht : oT h a = 7) : E_ (d + 1) mX5_readLine 96 ls [.int x1, .ref a] h = (C_ d mX5_eats [.ref a, .int x1] h).bind fun r => E_ (d + 1) mX5_readLine 99 ls (xpu r.1 []) r.2 := e_vir dX5_readLine_96 rfl rfl rfl rfl rfl rfl (Nat.le_of_ble_eq_true rfl) (Nat.le_of_ble_eq_true rfl) ht
theorem wX5_readLine_99 : E_ d mX5_readLine 99 ls (.int x :: st) h = if x = 0 then E_ d mX5_readLine 119 ls st h else E_ d mX5_readLine 102 ls st h := e_zeq dX5_readLine_99 rfl rfl
theorem wX5_readLine_102 : E_ d mX5_readLine 102 [.val (.ref a)] st h = E_ d mX5_readLine 103 [.val (.ref a)] (.ref a :: st) h := e_go dX5_readLine_102 rfl rfl
theorem wX5_readLine_103 (ht : oT h a = 7) : E_ d mX5_readLine 103 ls (.ref a :: st) h = E_ d mX5_readLine 106 ls (va_rf (oR h a 5) :: st) h := e_getR0 dX5_readLine_103 rfl rfl ht
theorem wX5_readLine_106 : E_ d mX5_readLine 106 ls st h = E_ d mX5_readLine 108 ls (.int (nI 37) :: st) h := e_bipush dX5_readLine_106 kbipush_37 rfl
theorem wX5_readLine_108 : E_ d mX5_readLine 108 [.val (.ref a)] st h = E_ d mX5_readLine 109 [.val (.ref a)] (.ref a :: st) h := e_go dX5_readLine_108 rfl rfl
theorem wX5_readLine_109 : E_ d mX5_readLine 109 ls st h = E_ d mX5_readLine 110 ls (.int (nI 0) :: st) h := e_iconst dX5_readLine_109 kiconst_0 rfl
theorem wX5_readLine_110 : E_ d mX5_readLine 110 ls st h = E_ d mX5_readLine 112 ls (.int (nI 60) :: st) h := e_bipush dX5_readLine_110 kbipush_60 rfl
theorem wX5_readLine_112 (ht : oT h a = 7) : E_ (d + 1) mX5_readLine 112 ls [.int x2, .int x1, .ref a, .int x3, .ref r1] h = (C_ d mX5_takes [.ref a, .int x1, .int x2] h).bind fun r => E_ (d + 1) mX5_readLine 115 ls (xpu r.1 [.int x3, .ref r1]) r.2 := e_vir dX5_readLine_112 rfl rfl rfl rfl rfl rfl (Nat.le_of_ble_eq_true rfl) (Nat.le_of_ble_eq_true rfl) ht
theorem wX5_readLine_115 (ht : oT h a = 40) (hi : xix x (oN h a) = true) : E_ d mX5_readLine 115 ls (.int y :: .int x :: .ref a :: st) h = E_ d mX5_readLine 116 ls st (pI h a (va_up (oI h a) x.toNatClampNeg y)) := e_iast dX5_readLine_115 rfl ht hi
theorem wX5_readLine_116 : E_ d mX5_readLine 116 ls st h = E_ d mX5_readLine 150 ls st h := e_gt dX5_readLine_116 rfl
theorem wX5_readLine_119 : E_ d mX5_readLine 119 [.val (.ref a)] st h = E_ d mX5_readLine 120 [.val (.ref a)] (.ref a :: st) h := e_go dX5_readLine_119 rfl rfl
theorem wX5_readLine_120 : E_ d mX5_readLine 120 ls st h = E_ d mX5_readLine 122 ls (.int (nI 16) :: st) h := e_bipush dX5_readLine_120 kbipush_16 rfl
theorem wX5_readLine_122 (ht : oT h a = 7) : E_ (d + 1) mX5_readLine 122 ls [.int x1, .ref a] h = (C_ d mX5_eats [.ref a, .int x1] h).bind fun r => E_ (d + 1) mX5_readLine 125 ls (xpu r.1 []) r.2 := e_vir dX5_readLine_122 rfl rfl rfl rfl rfl rfl (Nat.le_of_ble_eq_true rfl) (Nat.le_of_ble_eq_true rfl) ht
theorem wX5_readLine_125 : E_ d mX5_readLine 125 ls (.int x :: st) h = if x = 0 then E_ d mX5_readLine 146 ls st h else E_ d mX5_readLine 128 ls st h := e_zeq dX5_readLine_125 rfl rfl
theorem wX5_readLine_128 : E_ d mX5_readLine 128 [.val (.ref a)] st h = E_ d mX5_readLine 129 [.val (.ref a)] (.ref a :: st) h := e_go dX5_readLine_128 rfl rfl
theorem wX5_readLine_129 (ht : oT h a = 7) : E_ d mX5_readLine 129 ls (.ref a :: st) h = E_ d mX5_readLine 132 ls (va_rf (oR h a 5) :: st) h := e_getR0 dX5_readLine_129 rfl rfl ht
theorem wX5_readLine_132 : E_ d mX5_readLine 132 ls st h = E_ d mX5_readLine 134 ls (.int (nI 38) :: st) h := e_bipush dX5_readLine_132 kbipush_38 rfl
theorem wX5_readLine_134 : E_ d mX5_readLine 134 [.val (.ref a)] st h = E_ d mX5_readLine 135 [.val (.ref a)] (.ref a :: st) h := e_go dX5_readLine_134 rfl rfl
theorem wX5_readLine_135 : E_ d mX5_readLine 135 ls st h = E_ d mX5_readLine 136 ls (.int (nI 1) :: st) h := e_iconst dX5_readLine_135 kiconst_1 rfl
theorem wX5_readLine_136 : E_ d mX5_readLine 136 ls st h = E_ d mX5_readLine 139 ls (.int (nI 200) :: st) h := e_sipush dX5_readLine_136 ksipush_200 rfl
theorem wX5_readLine_139 (ht : oT h a = 7) : E_ (d + 1) mX5_readLine 139 ls [.int x2, .int x1, .ref a, .int x3, .ref r1] h = (C_ d mX5_takes [.ref a, .int x1, .int x2] h).bind fun r => E_ (d + 1) mX5_readLine 142 ls (xpu r.1 [.int x3, .ref r1]) r.2 := e_vir dX5_readLine_139 rfl rfl rfl rfl rfl rfl (Nat.le_of_ble_eq_true rfl) (Nat.le_of_ble_eq_true rfl) ht
theorem wX5_readLine_142 (ht : oT h a = 40) (hi : xix x (oN h a) = true) : E_ d mX5_readLine 142 ls (.int y :: .int x :: .ref a :: st) h = E_ d mX5_readLine 143 ls st (pI h a (va_up (oI h a) x.toNatClampNeg y)) := e_iast dX5_readLine_142 rfl ht hi
theorem wX5_readLine_143 : E_ d mX5_readLine 143 ls st h = E_ d mX5_readLine 150 ls st h := e_gt dX5_readLine_143 rfl
theorem wX5_readLine_146 : E_ d mX5_readLine 146 [.val (.ref a)] st h = E_ d mX5_readLine 147 [.val (.ref a)] (.ref a :: st) h := e_go dX5_readLine_146 rfl rfl
theorem wX5_readLine_147 (ht : oT h a = 7) : E_ (d + 1) mX5_readLine 147 ls [.ref a] h = (C_ d mX5_readTrait [.ref a] h).bind fun r => E_ (d + 1) mX5_readLine 150 ls (xpu r.1 []) r.2 := e_vir dX5_readLine_147 rfl rfl rfl rfl rfl rfl (Nat.le_of_ble_eq_true rfl) (Nat.le_of_ble_eq_true rfl) ht
theorem wX5_readLine_150 : E_ d mX5_readLine 150 [.val (.ref a)] st h = E_ d mX5_readLine 151 [.val (.ref a)] (.ref a :: st) h := e_go dX5_readLine_150 rfl rfl
theorem wX5_readLine_151 : E_ d mX5_readLine 151 ls st h = E_ d mX5_readLine 153 ls (.int (nI 31) :: st) h := e_bipush dX5_readLine_151 kbipush_31 rfl
theorem wX5_readLine_153 (ht : oT h a = 7) : E_ (d + 1) mX5_readLine 153 ls [.int x1, .ref a] h = (C_ d mX5_needs [.ref a, .int x1] h).bind fun r => E_ (d + 1) mX5_readLine 156 ls (xpu r.1 []) r.2 := e_vir dX5_readLine_153 rfl rfl rfl rfl rfl rfl (Nat.le_of_ble_eq_true rfl) (Nat.le_of_ble_eq_true rfl) ht
theorem wX5_readLine_156 : E_ d mX5_readLine 156 [.val (.ref a)] st h = E_ d mX5_readLine 157 [.val (.ref a)] (.ref a :: st) h := e_go dX5_readLine_156 rfl rfl
theorem wX5_readLine_157 (ht : oT h a = 7) : E_ d mX5_readLine 157 ls (.ref a :: st) h = E_ d mX5_readLine 160 ls (va_rf (oR h a 5) :: st) h := e_getR0 dX5_readLine_157 rfl rfl ht
theorem wX5_readLine_160 : E_ d mX5_readLine 160 ls st h = E_ d mX5_readLine 162 ls (.int (nI 39) :: st) h := e_bipush dX5_readLine_160 kbipush_39 rfl
theorem wX5_readLine_162 : E_ d mX5_readLine 162 ls (.int x :: .ref b :: st) h = E_ d mX5_readLine 163 ls (.int x :: .ref b :: .int x :: .ref b :: st) h := e_go dX5_readLine_162 rfl rfl
theorem wX5_readLine_163 (ht : oT h a = 40) (hi : xix x (oN h a) = true) : E_ d mX5_readLine 163 ls (.int x :: .ref a :: st) h = E_ d mX5_readLine 164 ls (.int (oI h a x.toNatClampNeg) :: st) h := e_iald dX5_readLine_163 rfl ht hi
theorem wX5_readLine_164 : E_ d mX5_readLine 164 ls st h = E_ d mX5_readLine 165 ls (.int (nI 1) :: st) h := e_iconst dX5_readLine_164 kiconst_1 rfl
theorem wX5_readLine_165 : E_ d mX5_readLine 165 ls (.int y :: .int x :: st) h = E_ d mX5_readLine 166 ls (.int (x + y) :: st) h := e_go dX5_readLine_165 rfl rfl
theorem wX5_readLine_166 (ht : oT h a = 40) (hi : xix x (oN h a) = true) : E_ d mX5_readLine 166 ls (.int y :: .int x :: .ref a :: st) h = E_ d mX5_readLine 167 ls st (pI h a (va_up (oI h a) x.toNatClampNeg y)) := e_iast dX5_readLine_166 rfl ht hi
theorem wX5_readLine_167 : E_ d mX5_readLine 167 ls [] h = some (none, h) := e_rt dX5_readLine_167 rfl rfl
/-! FootOutModel.eats -/
theorem wX5_eats_0 : E_ d mX5_eats 0 [.val (.ref a), s1] st h = E_ d mX5_eats 1 [.val (.ref a), s1] (.ref a :: st) h := e_go dX5_eats_0 rfl rfl
theorem wX5_eats_1 : E_ d mX5_eats 1 [s0, .val (.int x)] st h = E_ d mX5_eats 2 [s0, .val (.int x)] (.int x :: st) h := e_go dX5_eats_1 rfl rfl
theorem wX5_eats_2 (ht : oT h a = 7) : E_ (d + 1) mX5_eats 2 ls [.int x1, .ref a] h = (C_ d mX5_is [.ref a, .int x1] h).bind fun r => E_ (d + 1) mX5_eats 5 ls (xpu r.1 []) r.2 := e_vir dX5_eats_2 rfl rfl rfl rfl rfl rfl (Nat.le_of_ble_eq_true rfl) (Nat.le_of_ble_eq_true rfl) ht
theorem wX5_eats_5 : E_ d mX5_eats 5 ls (.int x :: st) h = if x = 0 then E_ d mX5_eats 8 ls st h else E_ d mX5_eats 10 ls st h := e_zne dX5_eats_5 rfl rfl
theorem wX5_eats_8 : E_ d mX5_eats 8 ls st h = E_ d mX5_eats 9 ls (.int (nI 0) :: st) h := e_iconst dX5_eats_8 kiconst_0 rfl
theorem wX5_eats_9 (hx : x = 0 ∨ x = 1) : E_ d mX5_eats 9 ls [.int x] h = some (some (.int x), h) := e_rtZ dX5_eats_9 rfl hx
theorem wX5_eats_10 : E_ d mX5_eats 10 [.val (.ref a), s1] st h = E_ d mX5_eats 11 [.val (.ref a), s1] (.ref a :: st) h := e_go dX5_eats_10 rfl rfl
theorem wX5_eats_11 (ht : oT h a = 7) : E_ (d + 1) mX5_eats 11 ls [.ref a] h = (C_ d mX5_next [.ref a] h).bind fun r => E_ (d + 1) mX5_eats 14 ls (xpu r.1 []) r.2 := e_vir dX5_eats_11 rfl rfl rfl rfl rfl rfl (Nat.le_of_ble_eq_true rfl) (Nat.le_of_ble_eq_true rfl) ht
theorem wX5_eats_14 : E_ d mX5_eats 14 ls st h = E_ d mX5_eats 15 ls (.int (nI 1) :: st) h := e_iconst dX5_eats_14 kiconst_1 rfl
theorem wX5_eats_15 (hx : x = 0 ∨ x = 1) : E_ d mX5_eats 15 ls [.int x] h = some (some (.int x), h) := e_rtZ dX5_eats_15 rfl hx
/-! FootOutModel.is -/
theorem wX5_is_0 : E_ d mX5_is 0 [.val (.ref a), s1] st h = E_ d mX5_is 1 [.val (.ref a), s1] (.ref a :: st) h := e_go dX5_is_0 rfl rfl
theorem wX5_is_1 (ht : oT h a = 7) : E_ d mX5_is 1 ls (.ref a :: st) h = E_ d mX5_is 4 ls (.int (oI h a 12) :: st) h := e_getI dX5_is_1 rfl rfl ht
theorem wX5_is_4 : E_ d mX5_is 4 ls (.int x :: st) h = if x = 0 then E_ d mX5_is 7 ls st h else E_ d mX5_is 19 ls st h := e_zne dX5_is_4 rfl rfl
theorem wX5_is_7 : E_ d mX5_is 7 [.val (.ref a), s1] st h = E_ d mX5_is 8 [.val (.ref a), s1] (.ref a :: st) h := e_go dX5_is_7 rfl rfl
theorem wX5_is_8 (ht : oT h a = 7) : E_ d mX5_is 8 ls (.ref a :: st) h = E_ d mX5_is 11 ls (.int (oI h a 10) :: st) h := e_getI dX5_is_8 rfl rfl ht
theorem wX5_is_11 : E_ d mX5_is 11 [s0, .val (.int x)] st h = E_ d mX5_is 12 [s0, .val (.int x)] (.int x :: st) h := e_go dX5_is_11 rfl rfl
theorem wX5_is_12 : E_ d mX5_is 12 ls (.int y :: .int x :: st) h = if x = y then E_ d mX5_is 15 ls st h else E_ d mX5_is 19 ls st h := e_ine dX5_is_12 rfl rfl
theorem wX5_is_15 : E_ d mX5_is 15 ls st h = E_ d mX5_is 16 ls (.int (nI 1) :: st) h := e_iconst dX5_is_15 kiconst_1 rfl
theorem wX5_is_16 : E_ d mX5_is 16 ls st h = E_ d mX5_is 20 ls st h := e_gt dX5_is_16 rfl
theorem wX5_is_19 : E_ d mX5_is 19 ls st h = E_ d mX5_is 20 ls (.int (nI 0) :: st) h := e_iconst dX5_is_19 kiconst_0 rfl
theorem wX5_is_20 (hx : x = 0 ∨ x = 1) : E_ d mX5_is 20 ls [.int x] h = some (some (.int x), h) := e_rtZ dX5_is_20 rfl hx
/-! FootOutModel.lanesNeeded -/
theorem wX5_lanesNeeded_0 : E_ d mX5_lanesNeeded 0 ls st h = E_ d mX5_lanesNeeded 1 ls (.int (nI 1) :: st) h := e_iconst dX5_lanesNeeded_0 kiconst_1 rfl
theorem wX5_lanesNeeded_1 : E_ d mX5_lanesNeeded 1 [s0, s1, s2] (.int x :: st) h = E_ d mX5_lanesNeeded 2 [xk s0, .val (.int x), s2] st h := e_go dX5_lanesNeeded_1 rfl rfl
theorem wX5_lanesNeeded_2 : E_ d mX5_lanesNeeded 2 ls st h = E_ d mX5_lanesNeeded 3 ls (.int (nI 0) :: st) h := e_iconst dX5_lanesNeeded_2 kiconst_0 rfl
theorem wX5_lanesNeeded_3 : E_ d mX5_lanesNeeded 3 [s0, s1, s2] (.int x :: st) h = E_ d mX5_lanesNeeded 4 [s0, xk s1, .val (.int x)] st h := e_go dX5_lanesNeeded_3 rfl rfl
theorem wX5_lanesNeeded_4 : E_ d mX5_lanesNeeded 4 [s0, s1, .val (.int x)] st h = E_ d mX5_lanesNeeded 5 [s0, s1, .val (.int x)] (.int x :: st) h := e_go dX5_lanesNeeded_4 rfl rfl
theorem wX5_lanesNeeded_5 : E_ d mX5_lanesNeeded 5 [.val (.ref a), s1, s2] st h = E_ d mX5_lanesNeeded 6 [.val (.ref a), s1, s2] (.ref a :: st) h := e_go dX5_lanesNeeded_5 rfl rfl
theorem wX5_lanesNeeded_6 (ht : oT h a = 7) : E_ d mX5_lanesNeeded 6 ls (.ref a :: st) h = E_ d mX5_lanesNeeded 9 ls (va_rf (oR h a 5) :: st) h := e_getR0 dX5_lanesNeeded_6 rfl rfl ht
theorem wX5_lanesNeeded_9 : E_ d mX5_lanesNeeded 9 ls st h = E_ d mX5_lanesNeeded 10 ls (.int (nI 1) :: st) h := e_iconst dX5_lanesNeeded_9 kiconst_1 rfl
theorem wX5_lanesNeeded_10 (ht : oT h a = 40) (hi : xix x (oN h a) = true) : E_ d mX5_lanesNeeded 10 ls (.int x :: .ref a :: st) h = E_ d mX5_lanesNeeded 11 ls (.int (oI h a x.toNatClampNeg) :: st) h := e_iald dX5_lanesNeeded_10 rfl ht hi
theorem wX5_lanesNeeded_11 : E_ d mX5_lanesNeeded 11 ls (.int y :: .int x :: st) h = if x < y then E_ d mX5_lanesNeeded 14 ls st h else E_ d mX5_lanesNeeded 49 ls st h := e_ige dX5_lanesNeeded_11 rfl rfl
theorem wX5_lanesNeeded_14 : E_ d mX5_lanesNeeded 14 [.val (.ref a), s1, s2] st h = E_ d mX5_lanesNeeded 15 [.val (.ref a), s1, s2] (.ref a :: st) h := e_go dX5_lanesNeeded_14 rfl rfl
theorem wX5_lanesNeeded_15 (ht : oT h a = 7) : E_ d mX5_lanesNeeded 15 ls (.ref a :: st) h = E_ d mX5_lanesNeeded 18 ls (va_rf (oR h a 5) :: st) h := e_getR0 dX5_lanesNeeded_15 rfl rfl ht
theorem wX5_lanesNeeded_18 : E_ d mX5_lanesNeeded 18 ls st h = E_ d mX5_lanesNeeded 19 ls (.int (nI 2) :: st) h := e_iconst dX5_lanesNeeded_18 kiconst_2 rfl
theorem wX5_lanesNeeded_19 : E_ d mX5_lanesNeeded 19 [s0, s1, .val (.int x)] st h = E_ d mX5_lanesNeeded 20 [s0, s1, .val (.int x)] (.int x :: st) h := e_go dX5_lanesNeeded_19 rfl rfl
theorem wX5_lanesNeeded_20 : E_ d mX5_lanesNeeded 20 ls (.int y :: .int x :: st) h = E_ d mX5_lanesNeeded 21 ls (.int (x + y) :: st) h := e_go dX5_lanesNeeded_20 rfl rfl
theorem wX5_lanesNeeded_21 (ht : oT h a = 40) (hi : xix x (oN h a) = true) : E_ d mX5_lanesNeeded 21 ls (.int x :: .ref a :: st) h = E_ d mX5_lanesNeeded 22 ls (.int (oI h a x.toNatClampNeg) :: st) h := e_iald dX5_lanesNeeded_21 rfl ht hi
theorem wX5_lanesNeeded_22 : E_ d mX5_lanesNeeded 22 ls st h = E_ d mX5_lanesNeeded 23 ls (.int (nI 1) :: st) h := e_iconst dX5_lanesNeeded_22 kiconst_1 rfl
theorem wX5_lanesNeeded_23 : E_ d mX5_lanesNeeded 23 ls (.int y :: .int x :: st) h = E_ d mX5_lanesNeeded 24 ls (.int (x + y) :: st) h := e_go dX5_lanesNeeded_23 rfl rfl
theorem wX5_lanesNeeded_24 : E_ d mX5_lanesNeeded 24 [s0, .val (.int x), s2] st h = E_ d mX5_lanesNeeded 25 [s0, .val (.int x), s2] (.int x :: st) h := e_go dX5_lanesNeeded_24 rfl rfl
theorem wX5_lanesNeeded_25 : E_ d mX5_lanesNeeded 25 ls (.int y :: .int x :: st) h = if y < x then E_ d mX5_lanesNeeded 28 ls st h else E_ d mX5_lanesNeeded 41 ls st h := e_ile dX5_lanesNeeded_25 rfl rfl
theorem wX5_lanesNeeded_28 : E_ d mX5_lanesNeeded 28 [.val (.ref a), s1, s2] st h = E_ d mX5_lanesNeeded 29 [.val (.ref a), s1, s2] (.ref a :: st) h := e_go dX5_lanesNeeded_28 rfl rfl
theorem wX5_lanesNeeded_29 (ht : oT h a = 7) : E_ d mX5_lanesNeeded 29 ls (.ref a :: st) h = E_ d mX5_lanesNeeded 32 ls (va_rf (oR h a 5) :: st) h := e_getR0 dX5_lanesNeeded_29 rfl rfl ht
theorem wX5_lanesNeeded_32 : E_ d mX5_lanesNeeded 32 ls st h = E_ d mX5_lanesNeeded 33 ls (.int (nI 2) :: st) h := e_iconst dX5_lanesNeeded_32 kiconst_2 rfl
theorem wX5_lanesNeeded_33 : E_ d mX5_lanesNeeded 33 [s0, s1, .val (.int x)] st h = E_ d mX5_lanesNeeded 34 [s0, s1, .val (.int x)] (.int x :: st) h := e_go dX5_lanesNeeded_33 rfl rfl
theorem wX5_lanesNeeded_34 : E_ d mX5_lanesNeeded 34 ls (.int y :: .int x :: st) h = E_ d mX5_lanesNeeded 35 ls (.int (x + y) :: st) h := e_go dX5_lanesNeeded_34 rfl rfl
theorem wX5_lanesNeeded_35 (ht : oT h a = 40) (hi : xix x (oN h a) = true) : E_ d mX5_lanesNeeded 35 ls (.int x :: .ref a :: st) h = E_ d mX5_lanesNeeded 36 ls (.int (oI h a x.toNatClampNeg) :: st) h := e_iald dX5_lanesNeeded_35 rfl ht hi
theorem wX5_lanesNeeded_36 : E_ d mX5_lanesNeeded 36 ls st h = E_ d mX5_lanesNeeded 37 ls (.int (nI 1) :: st) h := e_iconst dX5_lanesNeeded_36 kiconst_1 rfl
theorem wX5_lanesNeeded_37 : E_ d mX5_lanesNeeded 37 ls (.int y :: .int x :: st) h = E_ d mX5_lanesNeeded 38 ls (.int (x + y) :: st) h := e_go dX5_lanesNeeded_37 rfl rfl
theorem wX5_lanesNeeded_38 : E_ d mX5_lanesNeeded 38 ls st h = E_ d mX5_lanesNeeded 42 ls st h := e_gt dX5_lanesNeeded_38 rfl
theorem wX5_lanesNeeded_41 : E_ d mX5_lanesNeeded 41 [s0, .val (.int x), s2] st h = E_ d mX5_lanesNeeded 42 [s0, .val (.int x), s2] (.int x :: st) h := e_go dX5_lanesNeeded_41 rfl rfl
theorem wX5_lanesNeeded_42 : E_ d mX5_lanesNeeded 42 [s0, s1, s2] (.int x :: st) h = E_ d mX5_lanesNeeded 43 [xk s0, .val (.int x), s2] st h := e_go dX5_lanesNeeded_42 rfl rfl
theorem wX5_lanesNeeded_43 : E_ d mX5_lanesNeeded 43 [s0, s1, .val (.int x)] st h = E_ d mX5_lanesNeeded 46 [s0, xk s1, .val (.int (x + nI 1))] st h := by rw [← kiinc_1]; exact e_go dX5_lanesNeeded_43 rfl rfl
theorem wX5_lanesNeeded_46 : E_ d mX5_lanesNeeded 46 ls st h = E_ d mX5_lanesNeeded 4 ls st h := e_gt dX5_lanesNeeded_46 rfl
theorem wX5_lanesNeeded_49 : E_ d mX5_lanesNeeded 49 [s0, .val (.int x), s2] st h = E_ d mX5_lanesNeeded 50 [s0, .val (.int x), s2] (.int x :: st) h := e_go dX5_lanesNeeded_49 rfl rfl
theorem wX5_lanesNeeded_50 : E_ d mX5_lanesNeeded 50 ls [.int x] h = some (some (.int x), h) := e_rt dX5_lanesNeeded_50 rfl rfl
/-! FootOutModel.takes -/
theorem wX5_takes_0 : E_ d mX5_takes 0 [.val (.ref a), s1, s2, s3] st h = E_ d mX5_takes 1 [.val (.ref a), s1, s2, s3] (.ref a :: st) h := e_go dX5_takes_0 rfl rfl
theorem wX5_takes_1 : E_ d mX5_takes 1 ls st h = E_ d mX5_takes 3 ls (.int (nI 30) :: st) h := e_bipush dX5_takes_1 kbipush_30 rfl
theorem wX5_takes_3 (ht : oT h a = 7) : E_ (d + 1) mX5_takes 3 ls [.int x1, .ref a] h = (C_ d mX5_is [.ref a, .int x1] h).bind fun r => E_ (d + 1) mX5_takes 6 ls (xpu r.1 []) r.2 := e_vir dX5_takes_3 rfl rfl rfl rfl rfl rfl (Nat.le_of_ble_eq_true rfl) (Nat.le_of_ble_eq_true rfl) ht
theorem wX5_takes_6 : E_ d mX5_takes 6 ls (.int x :: st) h = if x = 0 then E_ d mX5_takes 9 ls st h else E_ d mX5_takes 17 ls st h := e_zne dX5_takes_6 rfl rfl
theorem wX5_takes_9 : E_ d mX5_takes 9 [.val (.ref a), s1, s2, s3] st h = E_ d mX5_takes 10 [.val (.ref a), s1, s2, s3] (.ref a :: st) h := e_go dX5_takes_9 rfl rfl
theorem wX5_takes_10 : E_ d mX5_takes 10 ls st h = E_ d mX5_takes 11 ls (.int (nI 2) :: st) h := e_iconst dX5_takes_10 kiconst_2 rfl
theorem wX5_takes_11 (ht : oT h a = 7) : E_ (d + 1) mX5_takes 11 ls [.int x1, .ref a] h = (C_ d mX5_fails [.ref a, .int x1] h).bind fun r => E_ (d + 1) mX5_takes 14 ls (xpu r.1 []) r.2 := e_vir dX5_takes_11 rfl rfl rfl rfl rfl rfl (Nat.le_of_ble_eq_true rfl) (Nat.le_of_ble_eq_true rfl) ht
theorem wX5_takes_14 : E_ d mX5_takes 14 ls st h = E_ d mX5_takes 37 ls st h := e_gt dX5_takes_14 rfl
theorem wX5_takes_17 : E_ d mX5_takes 17 [.val (.ref a), s1, s2, s3] st h = E_ d mX5_takes 18 [.val (.ref a), s1, s2, s3] (.ref a :: st) h := e_go dX5_takes_17 rfl rfl
theorem wX5_takes_18 (ht : oT h a = 7) : E_ d mX5_takes 18 ls (.ref a :: st) h = E_ d mX5_takes 21 ls (.int (oI h a 11) :: st) h := e_getI dX5_takes_18 rfl rfl ht
theorem wX5_takes_21 : E_ d mX5_takes 21 ls (.int x :: st) h = E_ d mX5_takes 22 ls (.long x.toInt64 :: st) h := e_go dX5_takes_21 rfl rfl
theorem wX5_takes_22 : E_ d mX5_takes 22 [s0, .val (.int x), s2, s3] st h = E_ d mX5_takes 23 [s0, .val (.int x), s2, s3] (.int x :: st) h := e_go dX5_takes_22 rfl rfl
theorem wX5_takes_23 : E_ d mX5_takes 23 ls (.int x :: st) h = E_ d mX5_takes 24 ls (.long x.toInt64 :: st) h := e_go dX5_takes_23 rfl rfl
theorem wX5_takes_24 : E_ d mX5_takes 24 [s0, s1, .val (.int x), s3] st h = E_ d mX5_takes 25 [s0, s1, .val (.int x), s3] (.int x :: st) h := e_go dX5_takes_24 rfl rfl
theorem wX5_takes_25 : E_ d mX5_takes 25 ls (.int x :: st) h = E_ d mX5_takes 26 ls (.long x.toInt64 :: st) h := e_go dX5_takes_25 rfl rfl
theorem wX5_takes_26 : E_ (d + 1) mX5_takes 26 ls [.long u3, .long u2, .long u1] h = (C_ d mX5_within [.long u1, .long u2, .long u3] h).bind fun r => E_ (d + 1) mX5_takes 29 ls (xpu r.1 []) r.2 := e_call dX5_takes_26 rfl rfl
theorem wX5_takes_29 : E_ d mX5_takes 29 ls (.int x :: st) h = if x = 0 then E_ d mX5_takes 32 ls st h else E_ d mX5_takes 37 ls st h := e_zne dX5_takes_29 rfl rfl
theorem wX5_takes_32 : E_ d mX5_takes 32 [.val (.ref a), s1, s2, s3] st h = E_ d mX5_takes 33 [.val (.ref a), s1, s2, s3] (.ref a :: st) h := e_go dX5_takes_32 rfl rfl
theorem wX5_takes_33 : E_ d mX5_takes 33 ls st h = E_ d mX5_takes 34 ls (.int (nI 3) :: st) h := e_iconst dX5_takes_33 kiconst_3 rfl
theorem wX5_takes_34 (ht : oT h a = 7) : E_ (d + 1) mX5_takes 34 ls [.int x1, .ref a] h = (C_ d mX5_fails [.ref a, .int x1] h).bind fun r => E_ (d + 1) mX5_takes 37 ls (xpu r.1 []) r.2 := e_vir dX5_takes_34 rfl rfl rfl rfl rfl rfl (Nat.le_of_ble_eq_true rfl) (Nat.le_of_ble_eq_true rfl) ht
theorem wX5_takes_37 : E_ d mX5_takes 37 [.val (.ref a), s1, s2, s3] st h = E_ d mX5_takes 38 [.val (.ref a), s1, s2, s3] (.ref a :: st) h := e_go dX5_takes_37 rfl rfl
theorem wX5_takes_38 (ht : oT h a = 7) : E_ d mX5_takes 38 ls (.ref a :: st) h = E_ d mX5_takes 41 ls (.int (oI h a 11) :: st) h := e_getI dX5_takes_38 rfl rfl ht
theorem wX5_takes_41 : E_ d mX5_takes 41 [s0, s1, s2, s3] (.int x :: st) h = E_ d mX5_takes 42 [s0, s1, xk s2, .val (.int x)] st h := e_go dX5_takes_41 rfl rfl
theorem wX5_takes_42 : E_ d mX5_takes 42 [.val (.ref a), s1, s2, s3] st h = E_ d mX5_takes 43 [.val (.ref a), s1, s2, s3] (.ref a :: st) h := e_go dX5_takes_42 rfl rfl
theorem wX5_takes_43 (ht : oT h a = 7) : E_ d mX5_takes 43 ls (.ref a :: st) h = E_ d mX5_takes 46 ls (.int (oI h a 12) :: st) h := e_getI dX5_takes_43 rfl rfl ht
theorem wX5_takes_46 : E_ d mX5_takes 46 ls (.int x :: st) h = if x = 0 then E_ d mX5_takes 49 ls st h else E_ d mX5_takes 53 ls st h := e_zne dX5_takes_46 rfl rfl
theorem wX5_takes_49 : E_ d mX5_takes 49 [.val (.ref a), s1, s2, s3] st h = E_ d mX5_takes 50 [.val (.ref a), s1, s2, s3] (.ref a :: st) h := e_go dX5_takes_49 rfl rfl
theorem wX5_takes_50 (ht : oT h a = 7) : E_ (d + 1) mX5_takes 50 ls [.ref a] h = (C_ d mX5_next [.ref a] h).bind fun r => E_ (d + 1) mX5_takes 53 ls (xpu r.1 []) r.2 := e_vir dX5_takes_50 rfl rfl rfl rfl rfl rfl (Nat.le_of_ble_eq_true rfl) (Nat.le_of_ble_eq_true rfl) ht
theorem wX5_takes_53 : E_ d mX5_takes 53 [s0, s1, s2, .val (.int x)] st h = E_ d mX5_takes 54 [s0, s1, s2, .val (.int x)] (.int x :: st) h := e_go dX5_takes_53 rfl rfl
theorem wX5_takes_54 : E_ d mX5_takes 54 ls [.int x] h = some (some (.int x), h) := e_rt dX5_takes_54 rfl rfl
/-! FootOutModel.fails -/
theorem wX5_fails_0 : E_ d mX5_fails 0 [.val (.ref a), s1] st h = E_ d mX5_fails 1 [.val (.ref a), s1] (.ref a :: st) h := e_go dX5_fails_0 rfl rfl
theorem wX5_fails_1 (ht : oT h a = 7) : E_ d mX5_fails 1 ls (.ref a :: st) h = E_ d mX5_fails 4 ls (.int (oI h a 12) :: st) h := e_getI dX5_fails_1 rfl rfl ht
theorem wX5_fails_4 : E_ d mX5_fails 4 ls (.int x :: st) h = if x = 0 then E_ d mX5_fails 8 ls st h else E_ d mX5_fails 7 ls st h := e_zeq dX5_fails_4 rfl rfl
theorem wX5_fails_7 : E_ d mX5_fails 7 ls [] h = some (none, h) := e_rt dX5_fails_7 rfl rfl
theorem wX5_fails_8 : E_ d mX5_fails 8 [.val (.ref a), s1] st h = E_ d mX5_fails 9 [.val (.ref a), s1] (.ref a :: st) h := e_go dX5_fails_8 rfl rfl
theorem wX5_fails_9 : E_ d mX5_fails 9 [.val (.ref a), s1] st h = E_ d mX5_fails 10 [.val (.ref a), s1] (.ref a :: st) h := e_go dX5_fails_9 rfl rfl
theorem wX5_fails_10 (ht : oT h a = 7) : E_ d mX5_fails 10 ls (.ref a :: st) h = E_ d mX5_fails 13 ls (.int (oI h a 10) :: st) h := e_getI dX5_fails_10 rfl rfl ht
theorem wX5_fails_13 : E_ d mX5_fails 13 ls st h = E_ d mX5_fails 15 ls (.int (nI 35) :: st) h := e_bipush dX5_fails_13 kbipush_35 rfl
theorem wX5_fails_15 : E_ d mX5_fails 15 ls (.int y :: .int x :: st) h = if x = y then E_ d mX5_fails 18 ls st h else E_ d mX5_fails 22 ls st h := e_ine dX5_fails_15 rfl rfl
theorem wX5_fails_18 : E_ d mX5_fails 18 ls st h = E_ d mX5_fails 19 ls (.int (nI 1) :: st) h := e_iconst dX5_fails_18 kiconst_1 rfl
theorem wX5_fails_19 : E_ d mX5_fails 19 ls st h = E_ d mX5_fails 23 ls st h := e_gt dX5_fails_19 rfl
theorem wX5_fails_22 : E_ d mX5_fails 22 [s0, .val (.int x)] st h = E_ d mX5_fails 23 [s0, .val (.int x)] (.int x :: st) h := e_go dX5_fails_22 rfl rfl
theorem wX5_fails_23 (ht : oT h a = 7) : E_ d mX5_fails 23 ls (.int x :: .ref a :: st) h = E_ d mX5_fails 26 ls st (pI h a (va_up (oI h a) 12 x)) := e_putI dX5_fails_23 rfl rfl ht
theorem wX5_fails_26 : E_ d mX5_fails 26 [.val (.ref a), s1] st h = E_ d mX5_fails 27 [.val (.ref a), s1] (.ref a :: st) h := e_go dX5_fails_26 rfl rfl
theorem wX5_fails_27 : E_ d mX5_fails 27 [.val (.ref a), s1] st h = E_ d mX5_fails 28 [.val (.ref a), s1] (.ref a :: st) h := e_go dX5_fails_27 rfl rfl
theorem wX5_fails_28 (ht : oT h a = 7) : E_ d mX5_fails 28 ls (.ref a :: st) h = E_ d mX5_fails 31 ls (.int (oI h a 7) :: st) h := e_getI dX5_fails_28 rfl rfl ht
theorem wX5_fails_31 (ht : oT h a = 7) : E_ d mX5_fails 31 ls (.int x :: .ref a :: st) h = E_ d mX5_fails 34 ls st (pI h a (va_up (oI h a) 13 x)) := e_putI dX5_fails_31 rfl rfl ht
theorem wX5_fails_34 : E_ d mX5_fails 34 ls [] h = some (none, h) := e_rt dX5_fails_34 rfl rfl
/-! FootOutModel.readCar -/
theorem wX5_readCar_0 : E_ d mX5_readCar 0 [.val (.ref a), s1] st h = E_ d mX5_readCar 1 [.val (.ref a), s1] (.ref a :: st) h := e_go dX5_readCar_0 rfl rfl
theorem wX5_readCar_1 (ht : oT h a = 7) : E_ d mX5_readCar 1 ls (.ref a :: st) h = E_ d mX5_readCar 4 ls (va_rf (oR h a 5) :: st) h := e_getR0 dX5_readCar_1 rfl rfl ht
theorem wX5_readCar_4 : E_ d mX5_readCar 4 ls st h = E_ d mX5_readCar 5 ls (.int (nI 1) :: st) h := e_iconst dX5_readCar_4 kiconst_1 rfl
theorem wX5_readCar_5 (ht : oT h a = 40) (hi : xix x (oN h a) = true) : E_ d mX5_readCar 5 ls (.int x :: .ref a :: st) h = E_ d mX5_readCar 6 ls (.int (oI h a x.toNatClampNeg) :: st) h := e_iald dX5_readCar_5 rfl ht hi
theorem wX5_readCar_6 : E_ d mX5_readCar 6 [s0, s1] (.int x :: st) h = E_ d mX5_readCar 7 [xk s0, .val (.int x)] st h := e_go dX5_readCar_6 rfl rfl
theorem wX5_readCar_7 : E_ d mX5_readCar 7 [s0, .val (.int x)] st h = E_ d mX5_readCar 8 [s0, .val (.int x)] (.int x :: st) h := e_go dX5_readCar_7 rfl rfl
theorem wX5_readCar_8 : E_ d mX5_readCar 8 ls st h = E_ d mX5_readCar 10 ls (.int (nI 8) :: st) h := e_bipush dX5_readCar_8 kbipush_8 rfl
theorem wX5_readCar_10 : E_ d mX5_readCar 10 ls (.int y :: .int x :: st) h = if x = y then E_ d mX5_readCar 13 ls st h else E_ d mX5_readCar 18 ls st h := e_ine dX5_readCar_10 rfl rfl
theorem wX5_readCar_13 : E_ d mX5_readCar 13 [.val (.ref a), s1] st h = E_ d mX5_readCar 14 [.val (.ref a), s1] (.ref a :: st) h := e_go dX5_readCar_13 rfl rfl
theorem wX5_readCar_14 : E_ d mX5_readCar 14 ls st h = E_ d mX5_readCar 15 ls (.int (nI 4) :: st) h := e_iconst dX5_readCar_14 kiconst_4 rfl
theorem wX5_readCar_15 (ht : oT h a = 7) : E_ (d + 1) mX5_readCar 15 ls [.int x1, .ref a] h = (C_ d mX5_fails [.ref a, .int x1] h).bind fun r => E_ (d + 1) mX5_readCar 18 ls (xpu r.1 []) r.2 := e_vir dX5_readCar_15 rfl rfl rfl rfl rfl rfl (Nat.le_of_ble_eq_true rfl) (Nat.le_of_ble_eq_true rfl) ht
theorem wX5_readCar_18 : E_ d mX5_readCar 18 [.val (.ref a), s1] st h = E_ d mX5_readCar 19 [.val (.ref a), s1] (.ref a :: st) h := e_go dX5_readCar_18 rfl rfl
theorem wX5_readCar_19 (ht : oT h a = 7) : E_ d mX5_readCar 19 ls (.ref a :: st) h = E_ d mX5_readCar 22 ls (.int (oI h a 12) :: st) h := e_getI dX5_readCar_19 rfl rfl ht
theorem wX5_readCar_22 : E_ d mX5_readCar 22 ls (.int x :: st) h = if x = 0 then E_ d mX5_readCar 26 ls st h else E_ d mX5_readCar 25 ls st h := e_zeq dX5_readCar_22 rfl rfl
theorem wX5_readCar_25 : E_ d mX5_readCar 25 ls [] h = some (none, h) := e_rt dX5_readCar_25 rfl rfl
theorem wX5_readCar_26 : E_ d mX5_readCar 26 [.val (.ref a), s1] st h = E_ d mX5_readCar 27 [.val (.ref a), s1] (.ref a :: st) h := e_go dX5_readCar_26 rfl rfl
theorem wX5_readCar_27 (ht : oT h a = 7) : E_ (d + 1) mX5_readCar 27 ls [.ref a] h = (C_ d mX5_next [.ref a] h).bind fun r => E_ (d + 1) mX5_readCar 30 ls (xpu r.1 []) r.2 := e_vir dX5_readCar_27 rfl rfl rfl rfl rfl rfl (Nat.le_of_ble_eq_true rfl) (Nat.le_of_ble_eq_true rfl) ht
theorem wX5_readCar_30 : E_ d mX5_readCar 30 [.val (.ref a), s1] st h = E_ d mX5_readCar 31 [.val (.ref a), s1] (.ref a :: st) h := e_go dX5_readCar_30 rfl rfl
theorem wX5_readCar_31 (ht : oT h a = 7) : E_ d mX5_readCar 31 ls (.ref a :: st) h = E_ d mX5_readCar 34 ls (va_rf (oR h a 5) :: st) h := e_getR0 dX5_readCar_31 rfl rfl ht
theorem wX5_readCar_34 : E_ d mX5_readCar 34 ls st h = E_ d mX5_readCar 35 ls (.int (nI 2) :: st) h := e_iconst dX5_readCar_34 kiconst_2 rfl
theorem wX5_readCar_35 : E_ d mX5_readCar 35 [s0, .val (.int x)] st h = E_ d mX5_readCar 36 [s0, .val (.int x)] (.int x :: st) h := e_go dX5_readCar_35 rfl rfl
theorem wX5_readCar_36 : E_ d mX5_readCar 36 ls (.int y :: .int x :: st) h = E_ d mX5_readCar 37 ls (.int (x + y) :: st) h := e_go dX5_readCar_36 rfl rfl
theorem wX5_readCar_37 : E_ d mX5_readCar 37 [.val (.ref a), s1] st h = E_ d mX5_readCar 38 [.val (.ref a), s1] (.ref a :: st) h := e_go dX5_readCar_37 rfl rfl
theorem wX5_readCar_38 : E_ d mX5_readCar 38 ls st h = E_ d mX5_readCar 39 ls (.int (nI 0) :: st) h := e_iconst dX5_readCar_38 kiconst_0 rfl
theorem wX5_readCar_39 : E_ d mX5_readCar 39 [.val (.ref a), s1] st h = E_ d mX5_readCar 40 [.val (.ref a), s1] (.ref a :: st) h := e_go dX5_readCar_39 rfl rfl
theorem wX5_readCar_40 (ht : oT h a = 7) : E_ d mX5_readCar 40 ls (.ref a :: st) h = E_ d mX5_readCar 43 ls (va_rf (oR h a 5) :: st) h := e_getR0 dX5_readCar_40 rfl rfl ht
theorem wX5_readCar_43 : E_ d mX5_readCar 43 ls st h = E_ d mX5_readCar 44 ls (.int (nI 0) :: st) h := e_iconst dX5_readCar_43 kiconst_0 rfl
theorem wX5_readCar_44 (ht : oT h a = 40) (hi : xix x (oN h a) = true) : E_ d mX5_readCar 44 ls (.int x :: .ref a :: st) h = E_ d mX5_readCar 45 ls (.int (oI h a x.toNatClampNeg) :: st) h := e_iald dX5_readCar_44 rfl ht hi
theorem wX5_readCar_45 : E_ d mX5_readCar 45 ls st h = E_ d mX5_readCar 46 ls (.int (nI 1) :: st) h := e_iconst dX5_readCar_45 kiconst_1 rfl
theorem wX5_readCar_46 : E_ d mX5_readCar 46 ls (.int y :: .int x :: st) h = E_ d mX5_readCar 47 ls (.int (x - y) :: st) h := e_go dX5_readCar_46 rfl rfl
theorem wX5_readCar_47 (ht : oT h a = 7) : E_ (d + 1) mX5_readCar 47 ls [.int x2, .int x1, .ref a, .int x3, .ref r1] h = (C_ d mX5_takes [.ref a, .int x1, .int x2] h).bind fun r => E_ (d + 1) mX5_readCar 50 ls (xpu r.1 [.int x3, .ref r1]) r.2 := e_vir dX5_readCar_47 rfl rfl rfl rfl rfl rfl (Nat.le_of_ble_eq_true rfl) (Nat.le_of_ble_eq_true rfl) ht
theorem wX5_readCar_50 (ht : oT h a = 40) (hi : xix x (oN h a) = true) : E_ d mX5_readCar 50 ls (.int y :: .int x :: .ref a :: st) h = E_ d mX5_readCar 51 ls st (pI h a (va_up (oI h a) x.toNatClampNeg y)) := e_iast dX5_readCar_50 rfl ht hi
theorem wX5_readCar_51 : E_ d mX5_readCar 51 [.val (.ref a), s1] st h = E_ d mX5_readCar 52 [.val (.ref a), s1] (.ref a :: st) h := e_go dX5_readCar_51 rfl rfl
theorem wX5_readCar_52 : E_ d mX5_readCar 52 ls st h = E_ d mX5_readCar 53 ls (.int (nI 2) :: st) h := e_iconst dX5_readCar_52 kiconst_2 rfl
theorem wX5_readCar_53 (ht : oT h a = 7) : E_ (d + 1) mX5_readCar 53 ls [.int x1, .ref a] h = (C_ d mX5_needs [.ref a, .int x1] h).bind fun r => E_ (d + 1) mX5_readCar 56 ls (xpu r.1 []) r.2 := e_vir dX5_readCar_53 rfl rfl rfl rfl rfl rfl (Nat.le_of_ble_eq_true rfl) (Nat.le_of_ble_eq_true rfl) ht
theorem wX5_readCar_56 : E_ d mX5_readCar 56 [.val (.ref a), s1] st h = E_ d mX5_readCar 57 [.val (.ref a), s1] (.ref a :: st) h := e_go dX5_readCar_56 rfl rfl
theorem wX5_readCar_57 (ht : oT h a = 7) : E_ d mX5_readCar 57 ls (.ref a :: st) h = E_ d mX5_readCar 60 ls (va_rf (oR h a 5) :: st) h := e_getR0 dX5_readCar_57 rfl rfl ht
theorem wX5_readCar_60 : E_ d mX5_readCar 60 ls st h = E_ d mX5_readCar 62 ls (.int (nI 10) :: st) h := e_bipush dX5_readCar_60 kbipush_10 rfl
theorem wX5_readCar_62 : E_ d mX5_readCar 62 [s0, .val (.int x)] st h = E_ d mX5_readCar 63 [s0, .val (.int x)] (.int x :: st) h := e_go dX5_readCar_62 rfl rfl
theorem wX5_readCar_63 : E_ d mX5_readCar 63 ls (.int y :: .int x :: st) h = E_ d mX5_readCar 64 ls (.int (x + y) :: st) h := e_go dX5_readCar_63 rfl rfl
theorem wX5_readCar_64 : E_ d mX5_readCar 64 [.val (.ref a), s1] st h = E_ d mX5_readCar 65 [.val (.ref a), s1] (.ref a :: st) h := e_go dX5_readCar_64 rfl rfl
theorem wX5_readCar_65 : E_ d mX5_readCar 65 ls st h = E_ d mX5_readCar 66 ls (.int (nI 1) :: st) h := e_iconst dX5_readCar_65 kiconst_1 rfl
theorem wX5_readCar_66 : E_ d mX5_readCar 66 ls st h = E_ d mX5_readCar 69 ls (.int (nI 200) :: st) h := e_sipush dX5_readCar_66 ksipush_200 rfl
theorem wX5_readCar_69 (ht : oT h a = 7) : E_ (d + 1) mX5_readCar 69 ls [.int x2, .int x1, .ref a, .int x3, .ref r1] h = (C_ d mX5_takes [.ref a, .int x1, .int x2] h).bind fun r => E_ (d + 1) mX5_readCar 72 ls (xpu r.1 [.int x3, .ref r1]) r.2 := e_vir dX5_readCar_69 rfl rfl rfl rfl rfl rfl (Nat.le_of_ble_eq_true rfl) (Nat.le_of_ble_eq_true rfl) ht
theorem wX5_readCar_72 (ht : oT h a = 40) (hi : xix x (oN h a) = true) : E_ d mX5_readCar 72 ls (.int y :: .int x :: .ref a :: st) h = E_ d mX5_readCar 73 ls st (pI h a (va_up (oI h a) x.toNatClampNeg y)) := e_iast dX5_readCar_72 rfl ht hi
theorem wX5_readCar_73 : E_ d mX5_readCar 73 [.val (.ref a), s1] st h = E_ d mX5_readCar 74 [.val (.ref a), s1] (.ref a :: st) h := e_go dX5_readCar_73 rfl rfl
theorem wX5_readCar_74 : E_ d mX5_readCar 74 ls st h = E_ d mX5_readCar 75 ls (.int (nI 3) :: st) h := e_iconst dX5_readCar_74 kiconst_3 rfl
theorem wX5_readCar_75 (ht : oT h a = 7) : E_ (d + 1) mX5_readCar 75 ls [.int x1, .ref a] h = (C_ d mX5_needs [.ref a, .int x1] h).bind fun r => E_ (d + 1) mX5_readCar 78 ls (xpu r.1 []) r.2 := e_vir dX5_readCar_75 rfl rfl rfl rfl rfl rfl (Nat.le_of_ble_eq_true rfl) (Nat.le_of_ble_eq_true rfl) ht
theorem wX5_readCar_78 : E_ d mX5_readCar 78 [.val (.ref a), s1] st h = E_ d mX5_readCar 79 [.val (.ref a), s1] (.ref a :: st) h := e_go dX5_readCar_78 rfl rfl
theorem wX5_readCar_79 (ht : oT h a = 7) : E_ d mX5_readCar 79 ls (.ref a :: st) h = E_ d mX5_readCar 82 ls (va_rf (oR h a 5) :: st) h := e_getR0 dX5_readCar_79 rfl rfl ht
theorem wX5_readCar_82 : E_ d mX5_readCar 82 ls st h = E_ d mX5_readCar 84 ls (.int (nI 18) :: st) h := e_bipush dX5_readCar_82 kbipush_18 rfl
theorem wX5_readCar_84 : E_ d mX5_readCar 84 [s0, .val (.int x)] st h = E_ d mX5_readCar 85 [s0, .val (.int x)] (.int x :: st) h := e_go dX5_readCar_84 rfl rfl
theorem wX5_readCar_85 : E_ d mX5_readCar 85 ls (.int y :: .int x :: st) h = E_ d mX5_readCar 86 ls (.int (x + y) :: st) h := e_go dX5_readCar_85 rfl rfl
theorem wX5_readCar_86 : E_ d mX5_readCar 86 [.val (.ref a), s1] st h = E_ d mX5_readCar 87 [.val (.ref a), s1] (.ref a :: st) h := e_go dX5_readCar_86 rfl rfl
theorem wX5_readCar_87 : E_ d mX5_readCar 87 ls st h = E_ d mX5_readCar 88 ls (.int (nI 1) :: st) h := e_iconst dX5_readCar_87 kiconst_1 rfl
theorem wX5_readCar_88 : E_ d mX5_readCar 88 ls st h = E_ d mX5_readCar 90 ls (.int (nI 9) :: st) h := e_bipush dX5_readCar_88 kbipush_9 rfl
theorem wX5_readCar_90 (ht : oT h a = 7) : E_ (d + 1) mX5_readCar 90 ls [.int x2, .int x1, .ref a, .int x3, .ref r1] h = (C_ d mX5_takes [.ref a, .int x1, .int x2] h).bind fun r => E_ (d + 1) mX5_readCar 93 ls (xpu r.1 [.int x3, .ref r1]) r.2 := e_vir dX5_readCar_90 rfl rfl rfl rfl rfl rfl (Nat.le_of_ble_eq_true rfl) (Nat.le_of_ble_eq_true rfl) ht
theorem wX5_readCar_93 (ht : oT h a = 40) (hi : xix x (oN h a) = true) : E_ d mX5_readCar 93 ls (.int y :: .int x :: .ref a :: st) h = E_ d mX5_readCar 94 ls st (pI h a (va_up (oI h a) x.toNatClampNeg y)) := e_iast dX5_readCar_93 rfl ht hi
theorem wX5_readCar_94 : E_ d mX5_readCar 94 [.val (.ref a), s1] st h = E_ d mX5_readCar 95 [.val (.ref a), s1] (.ref a :: st) h := e_go dX5_readCar_94 rfl rfl
theorem wX5_readCar_95 : E_ d mX5_readCar 95 ls st h = E_ d mX5_readCar 96 ls (.int (nI 4) :: st) h := e_iconst dX5_readCar_95 kiconst_4 rfl
theorem wX5_readCar_96 (ht : oT h a = 7) : E_ (d + 1) mX5_readCar 96 ls [.int x1, .ref a] h = (C_ d mX5_needs [.ref a, .int x1] h).bind fun r => E_ (d + 1) mX5_readCar 99 ls (xpu r.1 []) r.2 := e_vir dX5_readCar_96 rfl rfl rfl rfl rfl rfl (Nat.le_of_ble_eq_true rfl) (Nat.le_of_ble_eq_true rfl) ht
theorem wX5_readCar_99 : E_ d mX5_readCar 99 [.val (.ref a), s1] st h = E_ d mX5_readCar 100 [.val (.ref a), s1] (.ref a :: st) h := e_go dX5_readCar_99 rfl rfl
theorem wX5_readCar_100 (ht : oT h a = 7) : E_ d mX5_readCar 100 ls (.ref a :: st) h = E_ d mX5_readCar 103 ls (va_rf (oR h a 5) :: st) h := e_getR0 dX5_readCar_100 rfl rfl ht
theorem wX5_readCar_103 : E_ d mX5_readCar 103 ls st h = E_ d mX5_readCar 105 ls (.int (nI 26) :: st) h := e_bipush dX5_readCar_103 kbipush_26 rfl
theorem wX5_readCar_105 : E_ d mX5_readCar 105 [s0, .val (.int x)] st h = E_ d mX5_readCar 106 [s0, .val (.int x)] (.int x :: st) h := e_go dX5_readCar_105 rfl rfl
theorem wX5_readCar_106 : E_ d mX5_readCar 106 ls (.int y :: .int x :: st) h = E_ d mX5_readCar 107 ls (.int (x + y) :: st) h := e_go dX5_readCar_106 rfl rfl
theorem wX5_readCar_107 : E_ d mX5_readCar 107 [.val (.ref a), s1] st h = E_ d mX5_readCar 108 [.val (.ref a), s1] (.ref a :: st) h := e_go dX5_readCar_107 rfl rfl
theorem wX5_readCar_108 : E_ d mX5_readCar 108 ls st h = E_ d mX5_readCar 109 ls (.int (nI 0) :: st) h := e_iconst dX5_readCar_108 kiconst_0 rfl
theorem wX5_readCar_109 : E_ d mX5_readCar 109 ls st h = E_ d mX5_readCar 110 ls (.int (nI 3) :: st) h := e_iconst dX5_readCar_109 kiconst_3 rfl
theorem wX5_readCar_110 (ht : oT h a = 7) : E_ (d + 1) mX5_readCar 110 ls [.int x2, .int x1, .ref a, .int x3, .ref r1] h = (C_ d mX5_takes [.ref a, .int x1, .int x2] h).bind fun r => E_ (d + 1) mX5_readCar 113 ls (xpu r.1 [.int x3, .ref r1]) r.2 := e_vir dX5_readCar_110 rfl rfl rfl rfl rfl rfl (Nat.le_of_ble_eq_true rfl) (Nat.le_of_ble_eq_true rfl) ht
theorem wX5_readCar_113 (ht : oT h a = 40) (hi : xix x (oN h a) = true) : E_ d mX5_readCar 113 ls (.int y :: .int x :: .ref a :: st) h = E_ d mX5_readCar 114 ls st (pI h a (va_up (oI h a) x.toNatClampNeg y)) := e_iast dX5_readCar_113 rfl ht hi
theorem wX5_readCar_114 : E_ d mX5_readCar 114 [.val (.ref a), s1] st h = E_ d mX5_readCar 115 [.val (.ref a), s1] (.ref a :: st) h := e_go dX5_readCar_114 rfl rfl
theorem wX5_readCar_115 (ht : oT h a = 7) : E_ d mX5_readCar 115 ls (.ref a :: st) h = E_ d mX5_readCar 118 ls (va_rf (oR h a 5) :: st) h := e_getR0 dX5_readCar_115 rfl rfl ht
theorem wX5_readCar_118 : E_ d mX5_readCar 118 ls st h = E_ d mX5_readCar 119 ls (.int (nI 1) :: st) h := e_iconst dX5_readCar_118 kiconst_1 rfl
theorem wX5_readCar_119 : E_ d mX5_readCar 119 ls (.int x :: .ref b :: st) h = E_ d mX5_readCar 120 ls (.int x :: .ref b :: .int x :: .ref b :: st) h := e_go dX5_readCar_119 rfl rfl
theorem wX5_readCar_120 (ht : oT h a = 40) (hi : xix x (oN h a) = true) : E_ d mX5_readCar 120 ls (.int x :: .ref a :: st) h = E_ d mX5_readCar 121 ls (.int (oI h a x.toNatClampNeg) :: st) h := e_iald dX5_readCar_120 rfl ht hi
theorem wX5_readCar_121 : E_ d mX5_readCar 121 ls st h = E_ d mX5_readCar 122 ls (.int (nI 1) :: st) h := e_iconst dX5_readCar_121 kiconst_1 rfl
theorem wX5_readCar_122 : E_ d mX5_readCar 122 ls (.int y :: .int x :: st) h = E_ d mX5_readCar 123 ls (.int (x + y) :: st) h := e_go dX5_readCar_122 rfl rfl
theorem wX5_readCar_123 (ht : oT h a = 40) (hi : xix x (oN h a) = true) : E_ d mX5_readCar 123 ls (.int y :: .int x :: .ref a :: st) h = E_ d mX5_readCar 124 ls st (pI h a (va_up (oI h a) x.toNatClampNeg y)) := e_iast dX5_readCar_123 rfl ht hi
theorem wX5_readCar_124 : E_ d mX5_readCar 124 ls [] h = some (none, h) := e_rt dX5_readCar_124 rfl rfl
/-! FootOutModel.needs -/
theorem wX5_needs_0 : E_ d mX5_needs 0 [.val (.ref a), s1] st h = E_ d mX5_needs 1 [.val (.ref a), s1] (.ref a :: st) h := e_go dX5_needs_0 rfl rfl
theorem wX5_needs_1 : E_ d mX5_needs 1 [s0, .val (.int x)] st h = E_ d mX5_needs 2 [s0, .val (.int x)] (.int x :: st) h := e_go dX5_needs_1 rfl rfl
theorem wX5_needs_2 (ht : oT h a = 7) : E_ (d + 1) mX5_needs 2 ls [.int x1, .ref a] h = (C_ d mX5_eats [.ref a, .int x1] h).bind fun r => E_ (d + 1) mX5_needs 5 ls (xpu r.1 []) r.2 := e_vir dX5_needs_2 rfl rfl rfl rfl rfl rfl (Nat.le_of_ble_eq_true rfl) (Nat.le_of_ble_eq_true rfl) ht
theorem wX5_needs_5 : E_ d mX5_needs 5 ls (.int x :: st) h = if x = 0 then E_ d mX5_needs 8 ls st h else E_ d mX5_needs 13 ls st h := e_zne dX5_needs_5 rfl rfl
theorem wX5_needs_8 : E_ d mX5_needs 8 [.val (.ref a), s1] st h = E_ d mX5_needs 9 [.val (.ref a), s1] (.ref a :: st) h := e_go dX5_needs_8 rfl rfl
theorem wX5_needs_9 : E_ d mX5_needs 9 ls st h = E_ d mX5_needs 10 ls (.int (nI 2) :: st) h := e_iconst dX5_needs_9 kiconst_2 rfl
theorem wX5_needs_10 (ht : oT h a = 7) : E_ (d + 1) mX5_needs 10 ls [.int x1, .ref a] h = (C_ d mX5_fails [.ref a, .int x1] h).bind fun r => E_ (d + 1) mX5_needs 13 ls (xpu r.1 []) r.2 := e_vir dX5_needs_10 rfl rfl rfl rfl rfl rfl (Nat.le_of_ble_eq_true rfl) (Nat.le_of_ble_eq_true rfl) ht
theorem wX5_needs_13 : E_ d mX5_needs 13 ls [] h = some (none, h) := e_rt dX5_needs_13 rfl rfl
/-! FootOutModel.readTrait -/
theorem wX5_readTrait_0 : E_ d mX5_readTrait 0 [.val (.ref a)] st h = E_ d mX5_readTrait 1 [.val (.ref a)] (.ref a :: st) h := e_go dX5_readTrait_0 rfl rfl
theorem wX5_readTrait_1 (ht : oT h a = 7) : E_ d mX5_readTrait 1 ls (.ref a :: st) h = E_ d mX5_readTrait 4 ls (.int (oI h a 12) :: st) h := e_getI dX5_readTrait_1 rfl rfl ht
theorem wX5_readTrait_4 : E_ d mX5_readTrait 4 ls (.int x :: st) h = if x = 0 then E_ d mX5_readTrait 8 ls st h else E_ d mX5_readTrait 7 ls st h := e_zeq dX5_readTrait_4 rfl rfl
theorem wX5_readTrait_7 : E_ d mX5_readTrait 7 ls [] h = some (none, h) := e_rt dX5_readTrait_7 rfl rfl
theorem wX5_readTrait_8 : E_ d mX5_readTrait 8 [.val (.ref a)] st h = E_ d mX5_readTrait 9 [.val (.ref a)] (.ref a :: st) h := e_go dX5_readTrait_8 rfl rfl
theorem wX5_readTrait_9 (ht : oT h a = 7) : E_ d mX5_readTrait 9 ls (.ref a :: st) h = E_ d mX5_readTrait 12 ls (.int (oI h a 10) :: st) h := e_getI dX5_readTrait_9 rfl rfl ht
theorem wX5_readTrait_12 : E_ d mX5_readTrait 12 ls (.int x :: st) h = E_ d mX5_readTrait 13 ls (.long x.toInt64 :: st) h := e_go dX5_readTrait_12 rfl rfl
theorem wX5_readTrait_13 : E_ d mX5_readTrait 13 ls st h = E_ d mX5_readTrait 16 ls (.long (5) :: st) h := e_go dX5_readTrait_13 rfl rfl
theorem wX5_readTrait_16 : E_ d mX5_readTrait 16 ls st h = E_ d mX5_readTrait 19 ls (.long (12) :: st) h := e_go dX5_readTrait_16 rfl rfl
theorem wX5_readTrait_19 : E_ (d + 1) mX5_readTrait 19 ls [.long u3, .long u2, .long u1] h = (C_ d mX5_within [.long u1, .long u2, .long u3] h).bind fun r => E_ (d + 1) mX5_readTrait 22 ls (xpu r.1 []) r.2 := e_call dX5_readTrait_19 rfl rfl
theorem wX5_readTrait_22 : E_ d mX5_readTrait 22 ls (.int x :: st) h = if x = 0 then E_ d mX5_readTrait 25 ls st h else E_ d mX5_readTrait 31 ls st h := e_zne dX5_readTrait_22 rfl rfl
theorem wX5_readTrait_25 : E_ d mX5_readTrait 25 [.val (.ref a)] st h = E_ d mX5_readTrait 26 [.val (.ref a)] (.ref a :: st) h := e_go dX5_readTrait_25 rfl rfl
theorem wX5_readTrait_26 : E_ d mX5_readTrait 26 ls st h = E_ d mX5_readTrait 27 ls (.int (nI 2) :: st) h := e_iconst dX5_readTrait_26 kiconst_2 rfl
theorem wX5_readTrait_27 (ht : oT h a = 7) : E_ (d + 1) mX5_readTrait 27 ls [.int x1, .ref a] h = (C_ d mX5_fails [.ref a, .int x1] h).bind fun r => E_ (d + 1) mX5_readTrait 30 ls (xpu r.1 []) r.2 := e_vir dX5_readTrait_27 rfl rfl rfl rfl rfl rfl (Nat.le_of_ble_eq_true rfl) (Nat.le_of_ble_eq_true rfl) ht
theorem wX5_readTrait_30 : E_ d mX5_readTrait 30 ls [] h = some (none, h) := e_rt dX5_readTrait_30 rfl rfl
theorem wX5_readTrait_31 : E_ d mX5_readTrait 31 [.val (.ref a)] st h = E_ d mX5_readTrait 32 [.val (.ref a)] (.ref a :: st) h := e_go dX5_readTrait_31 rfl rfl
theorem wX5_readTrait_32 (ht : oT h a = 7) : E_ d mX5_readTrait 32 ls (.ref a :: st) h = E_ d mX5_readTrait 35 ls (va_rf (oR h a 5) :: st) h := e_getR0 dX5_readTrait_32 rfl rfl ht
theorem wX5_readTrait_35 : E_ d mX5_readTrait 35 ls st h = E_ d mX5_readTrait 37 ls (.int (nI 34) :: st) h := e_bipush dX5_readTrait_35 kbipush_34 rfl
theorem wX5_readTrait_37 : E_ d mX5_readTrait 37 ls (.int x :: .ref b :: st) h = E_ d mX5_readTrait 38 ls (.int x :: .ref b :: .int x :: .ref b :: st) h := e_go dX5_readTrait_37 rfl rfl
theorem wX5_readTrait_38 (ht : oT h a = 40) (hi : xix x (oN h a) = true) : E_ d mX5_readTrait 38 ls (.int x :: .ref a :: st) h = E_ d mX5_readTrait 39 ls (.int (oI h a x.toNatClampNeg) :: st) h := e_iald dX5_readTrait_38 rfl ht hi
theorem wX5_readTrait_39 : E_ d mX5_readTrait 39 ls st h = E_ d mX5_readTrait 40 ls (.int (nI 1) :: st) h := e_iconst dX5_readTrait_39 kiconst_1 rfl
theorem wX5_readTrait_40 : E_ d mX5_readTrait 40 [.val (.ref a)] st h = E_ d mX5_readTrait 41 [.val (.ref a)] (.ref a :: st) h := e_go dX5_readTrait_40 rfl rfl
theorem wX5_readTrait_41 (ht : oT h a = 7) : E_ d mX5_readTrait 41 ls (.ref a :: st) h = E_ d mX5_readTrait 44 ls (.int (oI h a 10) :: st) h := e_getI dX5_readTrait_41 rfl rfl ht
theorem wX5_readTrait_44 : E_ d mX5_readTrait 44 ls st h = E_ d mX5_readTrait 45 ls (.int (nI 5) :: st) h := e_iconst dX5_readTrait_44 kiconst_5 rfl
theorem wX5_readTrait_45 : E_ d mX5_readTrait 45 ls (.int y :: .int x :: st) h = E_ d mX5_readTrait 46 ls (.int (x - y) :: st) h := e_go dX5_readTrait_45 rfl rfl
theorem wX5_readTrait_46 : E_ d mX5_readTrait 46 ls (.int y :: .int x :: st) h = E_ d mX5_readTrait 47 ls (.int (x <<< (y &&& 31)) :: st) h := e_go dX5_readTrait_46 rfl rfl
theorem wX5_readTrait_47 : E_ d mX5_readTrait 47 ls (.int y :: .int x :: st) h = E_ d mX5_readTrait 48 ls (.int (x ||| y) :: st) h := e_go dX5_readTrait_47 rfl rfl
theorem wX5_readTrait_48 (ht : oT h a = 40) (hi : xix x (oN h a) = true) : E_ d mX5_readTrait 48 ls (.int y :: .int x :: .ref a :: st) h = E_ d mX5_readTrait 49 ls st (pI h a (va_up (oI h a) x.toNatClampNeg y)) := e_iast dX5_readTrait_48 rfl ht hi
theorem wX5_readTrait_49 : E_ d mX5_readTrait 49 [.val (.ref a)] st h = E_ d mX5_readTrait 50 [.val (.ref a)] (.ref a :: st) h := e_go dX5_readTrait_49 rfl rfl
theorem wX5_readTrait_50 (ht : oT h a = 7) : E_ (d + 1) mX5_readTrait 50 ls [.ref a] h = (C_ d mX5_next [.ref a] h).bind fun r => E_ (d + 1) mX5_readTrait 53 ls (xpu r.1 []) r.2 := e_vir dX5_readTrait_50 rfl rfl rfl rfl rfl rfl (Nat.le_of_ble_eq_true rfl) (Nat.le_of_ble_eq_true rfl) ht
theorem wX5_readTrait_53 : E_ d mX5_readTrait 53 ls [] h = some (none, h) := e_rt dX5_readTrait_53 rfl rfl
/-! FootOutModel.readLaw -/
theorem wX5_readLaw_0 : E_ d mX5_readLaw 0 [.val (.ref a), s1] st h = E_ d mX5_readLaw 1 [.val (.ref a), s1] (.ref a :: st) h := e_go dX5_readLaw_0 rfl rfl
theorem wX5_readLaw_1 (ht : oT h a = 7) : E_ d mX5_readLaw 1 ls (.ref a :: st) h = E_ d mX5_readLaw 4 ls (va_rf (oR h a 5) :: st) h := e_getR0 dX5_readLaw_1 rfl rfl ht
theorem wX5_readLaw_4 : E_ d mX5_readLaw 4 ls st h = E_ d mX5_readLaw 6 ls (.int (nI 40) :: st) h := e_bipush dX5_readLaw_4 kbipush_40 rfl
theorem wX5_readLaw_6 (ht : oT h a = 40) (hi : xix x (oN h a) = true) : E_ d mX5_readLaw 6 ls (.int x :: .ref a :: st) h = E_ d mX5_readLaw 7 ls (.int (oI h a x.toNatClampNeg) :: st) h := e_iald dX5_readLaw_6 rfl ht hi
theorem wX5_readLaw_7 : E_ d mX5_readLaw 7 [s0, s1] (.int x :: st) h = E_ d mX5_readLaw 8 [xk s0, .val (.int x)] st h := e_go dX5_readLaw_7 rfl rfl
theorem wX5_readLaw_8 : E_ d mX5_readLaw 8 [.val (.ref a), s1] st h = E_ d mX5_readLaw 9 [.val (.ref a), s1] (.ref a :: st) h := e_go dX5_readLaw_8 rfl rfl
theorem wX5_readLaw_9 : E_ d mX5_readLaw 9 ls st h = E_ d mX5_readLaw 11 ls (.int (nI 17) :: st) h := e_bipush dX5_readLaw_9 kbipush_17 rfl
theorem wX5_readLaw_11 (ht : oT h a = 7) : E_ (d + 1) mX5_readLaw 11 ls [.int x1, .ref a] h = (C_ d mX5_is [.ref a, .int x1] h).bind fun r => E_ (d + 1) mX5_readLaw 14 ls (xpu r.1 []) r.2 := e_vir dX5_readLaw_11 rfl rfl rfl rfl rfl rfl (Nat.le_of_ble_eq_true rfl) (Nat.le_of_ble_eq_true rfl) ht
theorem wX5_readLaw_14 : E_ d mX5_readLaw 14 ls (.int x :: st) h = if x = 0 then E_ d mX5_readLaw 17 ls st h else E_ d mX5_readLaw 25 ls st h := e_zne dX5_readLaw_14 rfl rfl
theorem wX5_readLaw_17 : E_ d mX5_readLaw 17 [.val (.ref a), s1] st h = E_ d mX5_readLaw 18 [.val (.ref a), s1] (.ref a :: st) h := e_go dX5_readLaw_17 rfl rfl
theorem wX5_readLaw_18 : E_ d mX5_readLaw 18 ls st h = E_ d mX5_readLaw 19 ls (.int (nI 2) :: st) h := e_iconst dX5_readLaw_18 kiconst_2 rfl
theorem wX5_readLaw_19 (ht : oT h a = 7) : E_ (d + 1) mX5_readLaw 19 ls [.int x1, .ref a] h = (C_ d mX5_fails [.ref a, .int x1] h).bind fun r => E_ (d + 1) mX5_readLaw 22 ls (xpu r.1 []) r.2 := e_vir dX5_readLaw_19 rfl rfl rfl rfl rfl rfl (Nat.le_of_ble_eq_true rfl) (Nat.le_of_ble_eq_true rfl) ht
theorem wX5_readLaw_22 : E_ d mX5_readLaw 22 ls st h = E_ d mX5_readLaw 36 ls st h := e_gt dX5_readLaw_22 rfl
theorem wX5_readLaw_25 : E_ d mX5_readLaw 25 [s0, .val (.int x)] st h = E_ d mX5_readLaw 26 [s0, .val (.int x)] (.int x :: st) h := e_go dX5_readLaw_25 rfl rfl
theorem wX5_readLaw_26 : E_ d mX5_readLaw 26 ls st h = E_ d mX5_readLaw 28 ls (.int (nI 12) :: st) h := e_bipush dX5_readLaw_26 kbipush_12 rfl
theorem wX5_readLaw_28 : E_ d mX5_readLaw 28 ls (.int y :: .int x :: st) h = if x = y then E_ d mX5_readLaw 31 ls st h else E_ d mX5_readLaw 36 ls st h := e_ine dX5_readLaw_28 rfl rfl
theorem wX5_readLaw_31 : E_ d mX5_readLaw 31 [.val (.ref a), s1] st h = E_ d mX5_readLaw 32 [.val (.ref a), s1] (.ref a :: st) h := e_go dX5_readLaw_31 rfl rfl
theorem wX5_readLaw_32 : E_ d mX5_readLaw 32 ls st h = E_ d mX5_readLaw 33 ls (.int (nI 4) :: st) h := e_iconst dX5_readLaw_32 kiconst_4 rfl
theorem wX5_readLaw_33 (ht : oT h a = 7) : E_ (d + 1) mX5_readLaw 33 ls [.int x1, .ref a] h = (C_ d mX5_fails [.ref a, .int x1] h).bind fun r => E_ (d + 1) mX5_readLaw 36 ls (xpu r.1 []) r.2 := e_vir dX5_readLaw_33 rfl rfl rfl rfl rfl rfl (Nat.le_of_ble_eq_true rfl) (Nat.le_of_ble_eq_true rfl) ht
theorem wX5_readLaw_36 : E_ d mX5_readLaw 36 [.val (.ref a), s1] st h = E_ d mX5_readLaw 37 [.val (.ref a), s1] (.ref a :: st) h := e_go dX5_readLaw_36 rfl rfl
theorem wX5_readLaw_37 (ht : oT h a = 7) : E_ d mX5_readLaw 37 ls (.ref a :: st) h = E_ d mX5_readLaw 40 ls (.int (oI h a 12) :: st) h := e_getI dX5_readLaw_37 rfl rfl ht
theorem wX5_readLaw_40 : E_ d mX5_readLaw 40 ls (.int x :: st) h = if x = 0 then E_ d mX5_readLaw 44 ls st h else E_ d mX5_readLaw 43 ls st h := e_zeq dX5_readLaw_40 rfl rfl
theorem wX5_readLaw_43 : E_ d mX5_readLaw 43 ls [] h = some (none, h) := e_rt dX5_readLaw_43 rfl rfl
theorem wX5_readLaw_44 : E_ d mX5_readLaw 44 [.val (.ref a), s1] st h = E_ d mX5_readLaw 45 [.val (.ref a), s1] (.ref a :: st) h := e_go dX5_readLaw_44 rfl rfl
theorem wX5_readLaw_45 (ht : oT h a = 7) : E_ (d + 1) mX5_readLaw 45 ls [.ref a] h = (C_ d mX5_next [.ref a] h).bind fun r => E_ (d + 1) mX5_readLaw 48 ls (xpu r.1 []) r.2 := e_vir dX5_readLaw_45 rfl rfl rfl rfl rfl rfl (Nat.le_of_ble_eq_true rfl) (Nat.le_of_ble_eq_true rfl) ht
theorem wX5_readLaw_48 : E_ d mX5_readLaw 48 [.val (.ref a), s1] st h = E_ d mX5_readLaw 49 [.val (.ref a), s1] (.ref a :: st) h := e_go dX5_readLaw_48 rfl rfl
theorem wX5_readLaw_49 (ht : oT h a = 7) : E_ d mX5_readLaw 49 ls (.ref a :: st) h = E_ d mX5_readLaw 52 ls (va_rf (oR h a 5) :: st) h := e_getR0 dX5_readLaw_49 rfl rfl ht
theorem wX5_readLaw_52 : E_ d mX5_readLaw 52 ls st h = E_ d mX5_readLaw 54 ls (.int (nI 41) :: st) h := e_bipush dX5_readLaw_52 kbipush_41 rfl
theorem wX5_readLaw_54 : E_ d mX5_readLaw 54 [s0, .val (.int x)] st h = E_ d mX5_readLaw 55 [s0, .val (.int x)] (.int x :: st) h := e_go dX5_readLaw_54 rfl rfl
theorem wX5_readLaw_55 : E_ d mX5_readLaw 55 ls (.int y :: .int x :: st) h = E_ d mX5_readLaw 56 ls (.int (x + y) :: st) h := e_go dX5_readLaw_55 rfl rfl
theorem wX5_readLaw_56 : E_ d mX5_readLaw 56 [.val (.ref a), s1] st h = E_ d mX5_readLaw 57 [.val (.ref a), s1] (.ref a :: st) h := e_go dX5_readLaw_56 rfl rfl
theorem wX5_readLaw_57 : E_ d mX5_readLaw 57 ls st h = E_ d mX5_readLaw 58 ls (.int (nI 0) :: st) h := e_iconst dX5_readLaw_57 kiconst_0 rfl
theorem wX5_readLaw_58 : E_ d mX5_readLaw 58 ls st h = E_ d mX5_readLaw 60 ls (.int (nI 100) :: st) h := e_bipush dX5_readLaw_58 kbipush_100 rfl
theorem wX5_readLaw_60 (ht : oT h a = 7) : E_ (d + 1) mX5_readLaw 60 ls [.int x2, .int x1, .ref a, .int x3, .ref r1] h = (C_ d mX5_takes [.ref a, .int x1, .int x2] h).bind fun r => E_ (d + 1) mX5_readLaw 63 ls (xpu r.1 [.int x3, .ref r1]) r.2 := e_vir dX5_readLaw_60 rfl rfl rfl rfl rfl rfl (Nat.le_of_ble_eq_true rfl) (Nat.le_of_ble_eq_true rfl) ht
theorem wX5_readLaw_63 (ht : oT h a = 40) (hi : xix x (oN h a) = true) : E_ d mX5_readLaw 63 ls (.int y :: .int x :: .ref a :: st) h = E_ d mX5_readLaw 64 ls st (pI h a (va_up (oI h a) x.toNatClampNeg y)) := e_iast dX5_readLaw_63 rfl ht hi
theorem wX5_readLaw_64 : E_ d mX5_readLaw 64 [.val (.ref a), s1] st h = E_ d mX5_readLaw 65 [.val (.ref a), s1] (.ref a :: st) h := e_go dX5_readLaw_64 rfl rfl
theorem wX5_readLaw_65 : E_ d mX5_readLaw 65 ls st h = E_ d mX5_readLaw 67 ls (.int (nI 18) :: st) h := e_bipush dX5_readLaw_65 kbipush_18 rfl
theorem wX5_readLaw_67 (ht : oT h a = 7) : E_ (d + 1) mX5_readLaw 67 ls [.int x1, .ref a] h = (C_ d mX5_needs [.ref a, .int x1] h).bind fun r => E_ (d + 1) mX5_readLaw 70 ls (xpu r.1 []) r.2 := e_vir dX5_readLaw_67 rfl rfl rfl rfl rfl rfl (Nat.le_of_ble_eq_true rfl) (Nat.le_of_ble_eq_true rfl) ht
theorem wX5_readLaw_70 : E_ d mX5_readLaw 70 [.val (.ref a), s1] st h = E_ d mX5_readLaw 71 [.val (.ref a), s1] (.ref a :: st) h := e_go dX5_readLaw_70 rfl rfl
theorem wX5_readLaw_71 (ht : oT h a = 7) : E_ d mX5_readLaw 71 ls (.ref a :: st) h = E_ d mX5_readLaw 74 ls (va_rf (oR h a 5) :: st) h := e_getR0 dX5_readLaw_71 rfl rfl ht
theorem wX5_readLaw_74 : E_ d mX5_readLaw 74 ls st h = E_ d mX5_readLaw 76 ls (.int (nI 53) :: st) h := e_bipush dX5_readLaw_74 kbipush_53 rfl
theorem wX5_readLaw_76 : E_ d mX5_readLaw 76 [s0, .val (.int x)] st h = E_ d mX5_readLaw 77 [s0, .val (.int x)] (.int x :: st) h := e_go dX5_readLaw_76 rfl rfl
theorem wX5_readLaw_77 : E_ d mX5_readLaw 77 ls (.int y :: .int x :: st) h = E_ d mX5_readLaw 78 ls (.int (x + y) :: st) h := e_go dX5_readLaw_77 rfl rfl
theorem wX5_readLaw_78 : E_ d mX5_readLaw 78 [.val (.ref a), s1] st h = E_ d mX5_readLaw 79 [.val (.ref a), s1] (.ref a :: st) h := e_go dX5_readLaw_78 rfl rfl
theorem wX5_readLaw_79 (ht : oT h a = 7) : E_ d mX5_readLaw 79 ls (.ref a :: st) h = E_ d mX5_readLaw 82 ls (.int (oI h a 15) :: st) h := e_getI dX5_readLaw_79 rfl rfl ht
theorem wX5_readLaw_82 (ht : oT h a = 40) (hi : xix x (oN h a) = true) : E_ d mX5_readLaw 82 ls (.int y :: .int x :: .ref a :: st) h = E_ d mX5_readLaw 83 ls st (pI h a (va_up (oI h a) x.toNatClampNeg y)) := e_iast dX5_readLaw_82 rfl ht hi
theorem wX5_readLaw_83 : E_ d mX5_readLaw 83 [.val (.ref a), s1] st h = E_ d mX5_readLaw 84 [.val (.ref a), s1] (.ref a :: st) h := e_go dX5_readLaw_83 rfl rfl
theorem wX5_readLaw_84 (ht : oT h a = 7) : E_ (d + 1) mX5_readLaw 84 ls [.ref a] h = (C_ d mX5_readTest [.ref a] h).bind fun r => E_ (d + 1) mX5_readLaw 87 ls (xpu r.1 []) r.2 := e_vir dX5_readLaw_84 rfl rfl rfl rfl rfl rfl (Nat.le_of_ble_eq_true rfl) (Nat.le_of_ble_eq_true rfl) ht
theorem wX5_readLaw_87 : E_ d mX5_readLaw 87 [.val (.ref a), s1] st h = E_ d mX5_readLaw 88 [.val (.ref a), s1] (.ref a :: st) h := e_go dX5_readLaw_87 rfl rfl
theorem wX5_readLaw_88 (ht : oT h a = 7) : E_ d mX5_readLaw 88 ls (.ref a :: st) h = E_ d mX5_readLaw 91 ls (va_rf (oR h a 5) :: st) h := e_getR0 dX5_readLaw_88 rfl rfl ht
theorem wX5_readLaw_91 : E_ d mX5_readLaw 91 ls st h = E_ d mX5_readLaw 93 ls (.int (nI 65) :: st) h := e_bipush dX5_readLaw_91 kbipush_65 rfl
theorem wX5_readLaw_93 : E_ d mX5_readLaw 93 [s0, .val (.int x)] st h = E_ d mX5_readLaw 94 [s0, .val (.int x)] (.int x :: st) h := e_go dX5_readLaw_93 rfl rfl
theorem wX5_readLaw_94 : E_ d mX5_readLaw 94 ls (.int y :: .int x :: st) h = E_ d mX5_readLaw 95 ls (.int (x + y) :: st) h := e_go dX5_readLaw_94 rfl rfl
theorem wX5_readLaw_95 : E_ d mX5_readLaw 95 [.val (.ref a), s1] st h = E_ d mX5_readLaw 96 [.val (.ref a), s1] (.ref a :: st) h := e_go dX5_readLaw_95 rfl rfl
theorem wX5_readLaw_96 (ht : oT h a = 7) : E_ d mX5_readLaw 96 ls (.ref a :: st) h = E_ d mX5_readLaw 99 ls (.int (oI h a 15) :: st) h := e_getI dX5_readLaw_96 rfl rfl ht
theorem wX5_readLaw_99 (ht : oT h a = 40) (hi : xix x (oN h a) = true) : E_ d mX5_readLaw 99 ls (.int y :: .int x :: .ref a :: st) h = E_ d mX5_readLaw 100 ls st (pI h a (va_up (oI h a) x.toNatClampNeg y)) := e_iast dX5_readLaw_99 rfl ht hi
theorem wX5_readLaw_100 : E_ d mX5_readLaw 100 [.val (.ref a), s1] st h = E_ d mX5_readLaw 101 [.val (.ref a), s1] (.ref a :: st) h := e_go dX5_readLaw_100 rfl rfl
theorem wX5_readLaw_101 : E_ d mX5_readLaw 101 ls st h = E_ d mX5_readLaw 103 ls (.int (nI 31) :: st) h := e_bipush dX5_readLaw_101 kbipush_31 rfl
theorem wX5_readLaw_103 (ht : oT h a = 7) : E_ (d + 1) mX5_readLaw 103 ls [.int x1, .ref a] h = (C_ d mX5_needs [.ref a, .int x1] h).bind fun r => E_ (d + 1) mX5_readLaw 106 ls (xpu r.1 []) r.2 := e_vir dX5_readLaw_103 rfl rfl rfl rfl rfl rfl (Nat.le_of_ble_eq_true rfl) (Nat.le_of_ble_eq_true rfl) ht
theorem wX5_readLaw_106 : E_ d mX5_readLaw 106 [.val (.ref a), s1] st h = E_ d mX5_readLaw 107 [.val (.ref a), s1] (.ref a :: st) h := e_go dX5_readLaw_106 rfl rfl
theorem wX5_readLaw_107 (ht : oT h a = 7) : E_ d mX5_readLaw 107 ls (.ref a :: st) h = E_ d mX5_readLaw 110 ls (va_rf (oR h a 5) :: st) h := e_getR0 dX5_readLaw_107 rfl rfl ht
theorem wX5_readLaw_110 : E_ d mX5_readLaw 110 ls st h = E_ d mX5_readLaw 112 ls (.int (nI 40) :: st) h := e_bipush dX5_readLaw_110 kbipush_40 rfl
theorem wX5_readLaw_112 : E_ d mX5_readLaw 112 ls (.int x :: .ref b :: st) h = E_ d mX5_readLaw 113 ls (.int x :: .ref b :: .int x :: .ref b :: st) h := e_go dX5_readLaw_112 rfl rfl
theorem wX5_readLaw_113 (ht : oT h a = 40) (hi : xix x (oN h a) = true) : E_ d mX5_readLaw 113 ls (.int x :: .ref a :: st) h = E_ d mX5_readLaw 114 ls (.int (oI h a x.toNatClampNeg) :: st) h := e_iald dX5_readLaw_113 rfl ht hi
theorem wX5_readLaw_114 : E_ d mX5_readLaw 114 ls st h = E_ d mX5_readLaw 115 ls (.int (nI 1) :: st) h := e_iconst dX5_readLaw_114 kiconst_1 rfl
theorem wX5_readLaw_115 : E_ d mX5_readLaw 115 ls (.int y :: .int x :: st) h = E_ d mX5_readLaw 116 ls (.int (x + y) :: st) h := e_go dX5_readLaw_115 rfl rfl
theorem wX5_readLaw_116 (ht : oT h a = 40) (hi : xix x (oN h a) = true) : E_ d mX5_readLaw 116 ls (.int y :: .int x :: .ref a :: st) h = E_ d mX5_readLaw 117 ls st (pI h a (va_up (oI h a) x.toNatClampNeg y)) := e_iast dX5_readLaw_116 rfl ht hi
theorem wX5_readLaw_117 : E_ d mX5_readLaw 117 ls [] h = some (none, h) := e_rt dX5_readLaw_117 rfl rfl
/-! FootOutModel.readTest -/
theorem wX5_readTest_0 : E_ d mX5_readTest 0 [.val (.ref a)] st h = E_ d mX5_readTest 1 [.val (.ref a)] (.ref a :: st) h := e_go dX5_readTest_0 rfl rfl
theorem wX5_readTest_1 (ht : oT h a = 7) : E_ (d + 1) mX5_readTest 1 ls [.ref a] h = (C_ d mX5_readPart [.ref a] h).bind fun r => E_ (d + 1) mX5_readTest 4 ls (xpu r.1 []) r.2 := e_vir dX5_readTest_1 rfl rfl rfl rfl rfl rfl (Nat.le_of_ble_eq_true rfl) (Nat.le_of_ble_eq_true rfl) ht
theorem wX5_readTest_4 : E_ d mX5_readTest 4 [.val (.ref a)] st h = E_ d mX5_readTest 5 [.val (.ref a)] (.ref a :: st) h := e_go dX5_readTest_4 rfl rfl
theorem wX5_readTest_5 : E_ d mX5_readTest 5 ls st h = E_ d mX5_readTest 7 ls (.int (nI 19) :: st) h := e_bipush dX5_readTest_5 kbipush_19 rfl
theorem wX5_readTest_7 (ht : oT h a = 7) : E_ (d + 1) mX5_readTest 7 ls [.int x1, .ref a] h = (C_ d mX5_eats [.ref a, .int x1] h).bind fun r => E_ (d + 1) mX5_readTest 10 ls (xpu r.1 []) r.2 := e_vir dX5_readTest_7 rfl rfl rfl rfl rfl rfl (Nat.le_of_ble_eq_true rfl) (Nat.le_of_ble_eq_true rfl) ht
theorem wX5_readTest_10 : E_ d mX5_readTest 10 ls (.int x :: st) h = if x = 0 then E_ d mX5_readTest 34 ls st h else E_ d mX5_readTest 13 ls st h := e_zeq dX5_readTest_10 rfl rfl
theorem wX5_readTest_13 : E_ d mX5_readTest 13 [.val (.ref a)] st h = E_ d mX5_readTest 14 [.val (.ref a)] (.ref a :: st) h := e_go dX5_readTest_13 rfl rfl
theorem wX5_readTest_14 (ht : oT h a = 7) : E_ (d + 1) mX5_readTest 14 ls [.ref a] h = (C_ d mX5_readPart [.ref a] h).bind fun r => E_ (d + 1) mX5_readTest 17 ls (xpu r.1 []) r.2 := e_vir dX5_readTest_14 rfl rfl rfl rfl rfl rfl (Nat.le_of_ble_eq_true rfl) (Nat.le_of_ble_eq_true rfl) ht
theorem wX5_readTest_17 : E_ d mX5_readTest 17 [.val (.ref a)] st h = E_ d mX5_readTest 18 [.val (.ref a)] (.ref a :: st) h := e_go dX5_readTest_17 rfl rfl
theorem wX5_readTest_18 (ht : oT h a = 7) : E_ d mX5_readTest 18 ls (.ref a :: st) h = E_ d mX5_readTest 21 ls (.int (oI h a 12) :: st) h := e_getI dX5_readTest_18 rfl rfl ht
theorem wX5_readTest_21 : E_ d mX5_readTest 21 ls (.int x :: st) h = if x = 0 then E_ d mX5_readTest 24 ls st h else E_ d mX5_readTest 4 ls st h := e_zne dX5_readTest_21 rfl rfl
theorem wX5_readTest_24 : E_ d mX5_readTest 24 [.val (.ref a)] st h = E_ d mX5_readTest 25 [.val (.ref a)] (.ref a :: st) h := e_go dX5_readTest_24 rfl rfl
theorem wX5_readTest_25 : E_ d mX5_readTest 25 ls st h = E_ d mX5_readTest 27 ls (.int (nI 19) :: st) h := e_bipush dX5_readTest_25 kbipush_19 rfl
theorem wX5_readTest_27 : E_ d mX5_readTest 27 ls st h = E_ d mX5_readTest 28 ls (.int (nI 0) :: st) h := e_iconst dX5_readTest_27 kiconst_0 rfl
theorem wX5_readTest_28 (ht : oT h a = 7) : E_ (d + 1) mX5_readTest 28 ls [.int x2, .int x1, .ref a] h = (C_ d mX5_emit [.ref a, .int x1, .int x2] h).bind fun r => E_ (d + 1) mX5_readTest 31 ls (xpu r.1 []) r.2 := e_vir dX5_readTest_28 rfl rfl rfl rfl rfl rfl (Nat.le_of_ble_eq_true rfl) (Nat.le_of_ble_eq_true rfl) ht
theorem wX5_readTest_31 : E_ d mX5_readTest 31 ls st h = E_ d mX5_readTest 4 ls st h := e_gt dX5_readTest_31 rfl
theorem wX5_readTest_34 : E_ d mX5_readTest 34 ls [] h = some (none, h) := e_rt dX5_readTest_34 rfl rfl
/-! FootOutModel.readPart -/
theorem wX5_readPart_0 : E_ d mX5_readPart 0 [.val (.ref a)] st h = E_ d mX5_readPart 1 [.val (.ref a)] (.ref a :: st) h := e_go dX5_readPart_0 rfl rfl
theorem wX5_readPart_1 (ht : oT h a = 7) : E_ (d + 1) mX5_readPart 1 ls [.ref a] h = (C_ d mX5_readFact [.ref a] h).bind fun r => E_ (d + 1) mX5_readPart 4 ls (xpu r.1 []) r.2 := e_vir dX5_readPart_1 rfl rfl rfl rfl rfl rfl (Nat.le_of_ble_eq_true rfl) (Nat.le_of_ble_eq_true rfl) ht
theorem wX5_readPart_4 : E_ d mX5_readPart 4 [.val (.ref a)] st h = E_ d mX5_readPart 5 [.val (.ref a)] (.ref a :: st) h := e_go dX5_readPart_4 rfl rfl
theorem wX5_readPart_5 : E_ d mX5_readPart 5 ls st h = E_ d mX5_readPart 7 ls (.int (nI 20) :: st) h := e_bipush dX5_readPart_5 kbipush_20 rfl
theorem wX5_readPart_7 (ht : oT h a = 7) : E_ (d + 1) mX5_readPart 7 ls [.int x1, .ref a] h = (C_ d mX5_eats [.ref a, .int x1] h).bind fun r => E_ (d + 1) mX5_readPart 10 ls (xpu r.1 []) r.2 := e_vir dX5_readPart_7 rfl rfl rfl rfl rfl rfl (Nat.le_of_ble_eq_true rfl) (Nat.le_of_ble_eq_true rfl) ht
theorem wX5_readPart_10 : E_ d mX5_readPart 10 ls (.int x :: st) h = if x = 0 then E_ d mX5_readPart 34 ls st h else E_ d mX5_readPart 13 ls st h := e_zeq dX5_readPart_10 rfl rfl
theorem wX5_readPart_13 : E_ d mX5_readPart 13 [.val (.ref a)] st h = E_ d mX5_readPart 14 [.val (.ref a)] (.ref a :: st) h := e_go dX5_readPart_13 rfl rfl
theorem wX5_readPart_14 (ht : oT h a = 7) : E_ (d + 1) mX5_readPart 14 ls [.ref a] h = (C_ d mX5_readFact [.ref a] h).bind fun r => E_ (d + 1) mX5_readPart 17 ls (xpu r.1 []) r.2 := e_vir dX5_readPart_14 rfl rfl rfl rfl rfl rfl (Nat.le_of_ble_eq_true rfl) (Nat.le_of_ble_eq_true rfl) ht
theorem wX5_readPart_17 : E_ d mX5_readPart 17 [.val (.ref a)] st h = E_ d mX5_readPart 18 [.val (.ref a)] (.ref a :: st) h := e_go dX5_readPart_17 rfl rfl
theorem wX5_readPart_18 (ht : oT h a = 7) : E_ d mX5_readPart 18 ls (.ref a :: st) h = E_ d mX5_readPart 21 ls (.int (oI h a 12) :: st) h := e_getI dX5_readPart_18 rfl rfl ht
theorem wX5_readPart_21 : E_ d mX5_readPart 21 ls (.int x :: st) h = if x = 0 then E_ d mX5_readPart 24 ls st h else E_ d mX5_readPart 4 ls st h := e_zne dX5_readPart_21 rfl rfl
theorem wX5_readPart_24 : E_ d mX5_readPart 24 [.val (.ref a)] st h = E_ d mX5_readPart 25 [.val (.ref a)] (.ref a :: st) h := e_go dX5_readPart_24 rfl rfl
theorem wX5_readPart_25 : E_ d mX5_readPart 25 ls st h = E_ d mX5_readPart 27 ls (.int (nI 20) :: st) h := e_bipush dX5_readPart_25 kbipush_20 rfl
theorem wX5_readPart_27 : E_ d mX5_readPart 27 ls st h = E_ d mX5_readPart 28 ls (.int (nI 0) :: st) h := e_iconst dX5_readPart_27 kiconst_0 rfl
theorem wX5_readPart_28 (ht : oT h a = 7) : E_ (d + 1) mX5_readPart 28 ls [.int x2, .int x1, .ref a] h = (C_ d mX5_emit [.ref a, .int x1, .int x2] h).bind fun r => E_ (d + 1) mX5_readPart 31 ls (xpu r.1 []) r.2 := e_vir dX5_readPart_28 rfl rfl rfl rfl rfl rfl (Nat.le_of_ble_eq_true rfl) (Nat.le_of_ble_eq_true rfl) ht
theorem wX5_readPart_31 : E_ d mX5_readPart 31 ls st h = E_ d mX5_readPart 4 ls st h := e_gt dX5_readPart_31 rfl
theorem wX5_readPart_34 : E_ d mX5_readPart 34 ls [] h = some (none, h) := e_rt dX5_readPart_34 rfl rfl
/-! FootOutModel.readFact -/
theorem wX5_readFact_0 : E_ d mX5_readFact 0 [.val (.ref a), s1, s2] st h = E_ d mX5_readFact 1 [.val (.ref a), s1, s2] (.ref a :: st) h := e_go dX5_readFact_0 rfl rfl
theorem wX5_readFact_1 (ht : oT h a = 7) : E_ d mX5_readFact 1 ls (.ref a :: st) h = E_ d mX5_readFact 4 ls (.int (oI h a 12) :: st) h := e_getI dX5_readFact_1 rfl rfl ht
theorem wX5_readFact_4 : E_ d mX5_readFact 4 ls (.int x :: st) h = if x = 0 then E_ d mX5_readFact 8 ls st h else E_ d mX5_readFact 7 ls st h := e_zeq dX5_readFact_4 rfl rfl
theorem wX5_readFact_7 : E_ d mX5_readFact 7 ls [] h = some (none, h) := e_rt dX5_readFact_7 rfl rfl
theorem wX5_readFact_8 : E_ d mX5_readFact 8 [.val (.ref a), s1, s2] st h = E_ d mX5_readFact 9 [.val (.ref a), s1, s2] (.ref a :: st) h := e_go dX5_readFact_8 rfl rfl
theorem wX5_readFact_9 (ht : oT h a = 7) : E_ d mX5_readFact 9 ls (.ref a :: st) h = E_ d mX5_readFact 12 ls (.int (oI h a 10) :: st) h := e_getI dX5_readFact_9 rfl rfl ht
theorem wX5_readFact_12 : E_ d mX5_readFact 12 [s0, s1, s2] (.int x :: st) h = E_ d mX5_readFact 13 [xk s0, .val (.int x), s2] st h := e_go dX5_readFact_12 rfl rfl
theorem wX5_readFact_13 : E_ d mX5_readFact 13 [s0, .val (.int x), s2] st h = E_ d mX5_readFact 14 [s0, .val (.int x), s2] (.int x :: st) h := e_go dX5_readFact_13 rfl rfl
theorem wX5_readFact_14 : E_ d mX5_readFact 14 ls st h = E_ d mX5_readFact 16 ls (.int (nI 21) :: st) h := e_bipush dX5_readFact_14 kbipush_21 rfl
theorem wX5_readFact_16 : E_ d mX5_readFact 16 ls (.int y :: .int x :: st) h = if x = y then E_ d mX5_readFact 25 ls st h else E_ d mX5_readFact 19 ls st h := e_ieq dX5_readFact_16 rfl rfl
theorem wX5_readFact_19 : E_ d mX5_readFact 19 [s0, .val (.int x), s2] st h = E_ d mX5_readFact 20 [s0, .val (.int x), s2] (.int x :: st) h := e_go dX5_readFact_19 rfl rfl
theorem wX5_readFact_20 : E_ d mX5_readFact 20 ls st h = E_ d mX5_readFact 22 ls (.int (nI 32) :: st) h := e_bipush dX5_readFact_20 kbipush_32 rfl
theorem wX5_readFact_22 : E_ d mX5_readFact 22 ls (.int y :: .int x :: st) h = if x = y then E_ d mX5_readFact 25 ls st h else E_ d mX5_readFact 118 ls st h := e_ine dX5_readFact_22 rfl rfl
theorem wX5_readFact_25 : E_ d mX5_readFact 25 [.val (.ref a), s1, s2] st h = E_ d mX5_readFact 26 [.val (.ref a), s1, s2] (.ref a :: st) h := e_go dX5_readFact_25 rfl rfl
theorem wX5_readFact_26 (ht : oT h a = 7) : E_ d mX5_readFact 26 ls (.ref a :: st) h = E_ d mX5_readFact 29 ls (.int (oI h a 14) :: st) h := e_getI dX5_readFact_26 rfl rfl ht
theorem wX5_readFact_29 : E_ d mX5_readFact 29 ls st h = E_ d mX5_readFact 31 ls (.int (nI 8) :: st) h := e_bipush dX5_readFact_29 kbipush_8 rfl
theorem wX5_readFact_31 : E_ d mX5_readFact 31 ls (.int y :: .int x :: st) h = if x = y then E_ d mX5_readFact 34 ls st h else E_ d mX5_readFact 39 ls st h := e_ine dX5_readFact_31 rfl rfl
theorem wX5_readFact_34 : E_ d mX5_readFact 34 [.val (.ref a), s1, s2] st h = E_ d mX5_readFact 35 [.val (.ref a), s1, s2] (.ref a :: st) h := e_go dX5_readFact_34 rfl rfl
theorem wX5_readFact_35 : E_ d mX5_readFact 35 ls st h = E_ d mX5_readFact 36 ls (.int (nI 5) :: st) h := e_iconst dX5_readFact_35 kiconst_5 rfl
theorem wX5_readFact_36 (ht : oT h a = 7) : E_ (d + 1) mX5_readFact 36 ls [.int x1, .ref a] h = (C_ d mX5_fails [.ref a, .int x1] h).bind fun r => E_ (d + 1) mX5_readFact 39 ls (xpu r.1 []) r.2 := e_vir dX5_readFact_36 rfl rfl rfl rfl rfl rfl (Nat.le_of_ble_eq_true rfl) (Nat.le_of_ble_eq_true rfl) ht
theorem wX5_readFact_39 : E_ d mX5_readFact 39 [.val (.ref a), s1, s2] st h = E_ d mX5_readFact 40 [.val (.ref a), s1, s2] (.ref a :: st) h := e_go dX5_readFact_39 rfl rfl
theorem wX5_readFact_40 (ht : oT h a = 7) : E_ d mX5_readFact 40 ls (.ref a :: st) h = E_ d mX5_readFact 43 ls (.int (oI h a 12) :: st) h := e_getI dX5_readFact_40 rfl rfl ht
theorem wX5_readFact_43 : E_ d mX5_readFact 43 ls (.int x :: st) h = if x = 0 then E_ d mX5_readFact 47 ls st h else E_ d mX5_readFact 46 ls st h := e_zeq dX5_readFact_43 rfl rfl
theorem wX5_readFact_46 : E_ d mX5_readFact 46 ls [] h = some (none, h) := e_rt dX5_readFact_46 rfl rfl
theorem wX5_readFact_47 : E_ d mX5_readFact 47 [.val (.ref a), s1, s2] st h = E_ d mX5_readFact 48 [.val (.ref a), s1, s2] (.ref a :: st) h := e_go dX5_readFact_47 rfl rfl
theorem wX5_readFact_48 (ht : oT h a = 7) : E_ (d + 1) mX5_readFact 48 ls [.ref a] h = (C_ d mX5_next [.ref a] h).bind fun r => E_ (d + 1) mX5_readFact 51 ls (xpu r.1 []) r.2 := e_vir dX5_readFact_48 rfl rfl rfl rfl rfl rfl (Nat.le_of_ble_eq_true rfl) (Nat.le_of_ble_eq_true rfl) ht
theorem wX5_readFact_51 : E_ d mX5_readFact 51 [.val (.ref a), s1, s2] st h = E_ d mX5_readFact 52 [.val (.ref a), s1, s2] (.ref a :: st) h := e_go dX5_readFact_51 rfl rfl
theorem wX5_readFact_52 : E_ d mX5_readFact 52 ls (.ref a :: st) h = E_ d mX5_readFact 53 ls (.ref a :: .ref a :: st) h := e_go dX5_readFact_52 rfl rfl
theorem wX5_readFact_53 (ht : oT h a = 7) : E_ d mX5_readFact 53 ls (.ref a :: st) h = E_ d mX5_readFact 56 ls (.int (oI h a 14) :: st) h := e_getI dX5_readFact_53 rfl rfl ht
theorem wX5_readFact_56 : E_ d mX5_readFact 56 ls st h = E_ d mX5_readFact 57 ls (.int (nI 1) :: st) h := e_iconst dX5_readFact_56 kiconst_1 rfl
theorem wX5_readFact_57 : E_ d mX5_readFact 57 ls (.int y :: .int x :: st) h = E_ d mX5_readFact 58 ls (.int (x + y) :: st) h := e_go dX5_readFact_57 rfl rfl
theorem wX5_readFact_58 (ht : oT h a = 7) : E_ d mX5_readFact 58 ls (.int x :: .ref a :: st) h = E_ d mX5_readFact 61 ls st (pI h a (va_up (oI h a) 14 x)) := e_putI dX5_readFact_58 rfl rfl ht
theorem wX5_readFact_61 : E_ d mX5_readFact 61 [s0, .val (.int x), s2] st h = E_ d mX5_readFact 62 [s0, .val (.int x), s2] (.int x :: st) h := e_go dX5_readFact_61 rfl rfl
theorem wX5_readFact_62 : E_ d mX5_readFact 62 ls st h = E_ d mX5_readFact 64 ls (.int (nI 21) :: st) h := e_bipush dX5_readFact_62 kbipush_21 rfl
theorem wX5_readFact_64 : E_ d mX5_readFact 64 ls (.int y :: .int x :: st) h = if x = y then E_ d mX5_readFact 67 ls st h else E_ d mX5_readFact 74 ls st h := e_ine dX5_readFact_64 rfl rfl
theorem wX5_readFact_67 : E_ d mX5_readFact 67 [.val (.ref a), s1, s2] st h = E_ d mX5_readFact 68 [.val (.ref a), s1, s2] (.ref a :: st) h := e_go dX5_readFact_67 rfl rfl
theorem wX5_readFact_68 (ht : oT h a = 7) : E_ (d + 1) mX5_readFact 68 ls [.ref a] h = (C_ d mX5_readFact [.ref a] h).bind fun r => E_ (d + 1) mX5_readFact 71 ls (xpu r.1 []) r.2 := e_vir dX5_readFact_68 rfl rfl rfl rfl rfl rfl (Nat.le_of_ble_eq_true rfl) (Nat.le_of_ble_eq_true rfl) ht
theorem wX5_readFact_71 : E_ d mX5_readFact 71 ls st h = E_ d mX5_readFact 78 ls st h := e_gt dX5_readFact_71 rfl
theorem wX5_readFact_74 : E_ d mX5_readFact 74 [.val (.ref a), s1, s2] st h = E_ d mX5_readFact 75 [.val (.ref a), s1, s2] (.ref a :: st) h := e_go dX5_readFact_74 rfl rfl
theorem wX5_readFact_75 (ht : oT h a = 7) : E_ (d + 1) mX5_readFact 75 ls [.ref a] h = (C_ d mX5_readTest [.ref a] h).bind fun r => E_ (d + 1) mX5_readFact 78 ls (xpu r.1 []) r.2 := e_vir dX5_readFact_75 rfl rfl rfl rfl rfl rfl (Nat.le_of_ble_eq_true rfl) (Nat.le_of_ble_eq_true rfl) ht
theorem wX5_readFact_78 : E_ d mX5_readFact 78 [.val (.ref a), s1, s2] st h = E_ d mX5_readFact 79 [.val (.ref a), s1, s2] (.ref a :: st) h := e_go dX5_readFact_78 rfl rfl
theorem wX5_readFact_79 : E_ d mX5_readFact 79 ls (.ref a :: st) h = E_ d mX5_readFact 80 ls (.ref a :: .ref a :: st) h := e_go dX5_readFact_79 rfl rfl
theorem wX5_readFact_80 (ht : oT h a = 7) : E_ d mX5_readFact 80 ls (.ref a :: st) h = E_ d mX5_readFact 83 ls (.int (oI h a 14) :: st) h := e_getI dX5_readFact_80 rfl rfl ht
theorem wX5_readFact_83 : E_ d mX5_readFact 83 ls st h = E_ d mX5_readFact 84 ls (.int (nI 1) :: st) h := e_iconst dX5_readFact_83 kiconst_1 rfl
theorem wX5_readFact_84 : E_ d mX5_readFact 84 ls (.int y :: .int x :: st) h = E_ d mX5_readFact 85 ls (.int (x - y) :: st) h := e_go dX5_readFact_84 rfl rfl
theorem wX5_readFact_85 (ht : oT h a = 7) : E_ d mX5_readFact 85 ls (.int x :: .ref a :: st) h = E_ d mX5_readFact 88 ls st (pI h a (va_up (oI h a) 14 x)) := e_putI dX5_readFact_85 rfl rfl ht
theorem wX5_readFact_88 : E_ d mX5_readFact 88 [s0, .val (.int x), s2] st h = E_ d mX5_readFact 89 [s0, .val (.int x), s2] (.int x :: st) h := e_go dX5_readFact_88 rfl rfl
theorem wX5_readFact_89 : E_ d mX5_readFact 89 ls st h = E_ d mX5_readFact 91 ls (.int (nI 32) :: st) h := e_bipush dX5_readFact_89 kbipush_32 rfl
theorem wX5_readFact_91 : E_ d mX5_readFact 91 ls (.int y :: .int x :: st) h = if x = y then E_ d mX5_readFact 94 ls st h else E_ d mX5_readFact 103 ls st h := e_ine dX5_readFact_91 rfl rfl
theorem wX5_readFact_94 : E_ d mX5_readFact 94 [.val (.ref a), s1, s2] st h = E_ d mX5_readFact 95 [.val (.ref a), s1, s2] (.ref a :: st) h := e_go dX5_readFact_94 rfl rfl
theorem wX5_readFact_95 : E_ d mX5_readFact 95 ls st h = E_ d mX5_readFact 97 ls (.int (nI 33) :: st) h := e_bipush dX5_readFact_95 kbipush_33 rfl
theorem wX5_readFact_97 (ht : oT h a = 7) : E_ (d + 1) mX5_readFact 97 ls [.int x1, .ref a] h = (C_ d mX5_needs [.ref a, .int x1] h).bind fun r => E_ (d + 1) mX5_readFact 100 ls (xpu r.1 []) r.2 := e_vir dX5_readFact_97 rfl rfl rfl rfl rfl rfl (Nat.le_of_ble_eq_true rfl) (Nat.le_of_ble_eq_true rfl) ht
theorem wX5_readFact_100 : E_ d mX5_readFact 100 ls st h = E_ d mX5_readFact 117 ls st h := e_gt dX5_readFact_100 rfl
theorem wX5_readFact_103 : E_ d mX5_readFact 103 [.val (.ref a), s1, s2] st h = E_ d mX5_readFact 104 [.val (.ref a), s1, s2] (.ref a :: st) h := e_go dX5_readFact_103 rfl rfl
theorem wX5_readFact_104 (ht : oT h a = 7) : E_ d mX5_readFact 104 ls (.ref a :: st) h = E_ d mX5_readFact 107 ls (.int (oI h a 12) :: st) h := e_getI dX5_readFact_104 rfl rfl ht
theorem wX5_readFact_107 : E_ d mX5_readFact 107 ls (.int x :: st) h = if x = 0 then E_ d mX5_readFact 110 ls st h else E_ d mX5_readFact 117 ls st h := e_zne dX5_readFact_107 rfl rfl
theorem wX5_readFact_110 : E_ d mX5_readFact 110 [.val (.ref a), s1, s2] st h = E_ d mX5_readFact 111 [.val (.ref a), s1, s2] (.ref a :: st) h := e_go dX5_readFact_110 rfl rfl
theorem wX5_readFact_111 : E_ d mX5_readFact 111 ls st h = E_ d mX5_readFact 113 ls (.int (nI 21) :: st) h := e_bipush dX5_readFact_111 kbipush_21 rfl
theorem wX5_readFact_113 : E_ d mX5_readFact 113 ls st h = E_ d mX5_readFact 114 ls (.int (nI 0) :: st) h := e_iconst dX5_readFact_113 kiconst_0 rfl
theorem wX5_readFact_114 (ht : oT h a = 7) : E_ (d + 1) mX5_readFact 114 ls [.int x2, .int x1, .ref a] h = (C_ d mX5_emit [.ref a, .int x1, .int x2] h).bind fun r => E_ (d + 1) mX5_readFact 117 ls (xpu r.1 []) r.2 := e_vir dX5_readFact_114 rfl rfl rfl rfl rfl rfl (Nat.le_of_ble_eq_true rfl) (Nat.le_of_ble_eq_true rfl) ht
theorem wX5_readFact_117 : E_ d mX5_readFact 117 ls [] h = some (none, h) := e_rt dX5_readFact_117 rfl rfl
theorem wX5_readFact_118 : E_ d mX5_readFact 118 [s0, .val (.int x), s2] st h = E_ d mX5_readFact 119 [s0, .val (.int x), s2] (.int x :: st) h := e_go dX5_readFact_118 rfl rfl
theorem wX5_readFact_119 : E_ d mX5_readFact 119 ls st h = E_ d mX5_readFact 120 ls (.int (nI 4) :: st) h := e_iconst dX5_readFact_119 kiconst_4 rfl
theorem wX5_readFact_120 : E_ d mX5_readFact 120 ls (.int y :: .int x :: st) h = if x = y then E_ d mX5_readFact 156 ls st h else E_ d mX5_readFact 123 ls st h := e_ieq dX5_readFact_120 rfl rfl
theorem wX5_readFact_123 : E_ d mX5_readFact 123 [s0, .val (.int x), s2] st h = E_ d mX5_readFact 124 [s0, .val (.int x), s2] (.int x :: st) h := e_go dX5_readFact_123 rfl rfl
theorem wX5_readFact_124 : E_ d mX5_readFact 124 ls (.int x :: st) h = E_ d mX5_readFact 125 ls (.long x.toInt64 :: st) h := e_go dX5_readFact_124 rfl rfl
theorem wX5_readFact_125 : E_ d mX5_readFact 125 ls st h = E_ d mX5_readFact 128 ls (.long (5) :: st) h := e_go dX5_readFact_125 rfl rfl
theorem wX5_readFact_128 : E_ d mX5_readFact 128 ls st h = E_ d mX5_readFact 131 ls (.long (12) :: st) h := e_go dX5_readFact_128 rfl rfl
theorem wX5_readFact_131 : E_ (d + 1) mX5_readFact 131 ls [.long u3, .long u2, .long u1] h = (C_ d mX5_within [.long u1, .long u2, .long u3] h).bind fun r => E_ (d + 1) mX5_readFact 134 ls (xpu r.1 []) r.2 := e_call dX5_readFact_131 rfl rfl
theorem wX5_readFact_134 : E_ d mX5_readFact 134 ls (.int x :: st) h = if x = 0 then E_ d mX5_readFact 137 ls st h else E_ d mX5_readFact 156 ls st h := e_zne dX5_readFact_134 rfl rfl
theorem wX5_readFact_137 : E_ d mX5_readFact 137 [s0, .val (.int x), s2] st h = E_ d mX5_readFact 138 [s0, .val (.int x), s2] (.int x :: st) h := e_go dX5_readFact_137 rfl rfl
theorem wX5_readFact_138 : E_ d mX5_readFact 138 ls (.int x :: st) h = E_ d mX5_readFact 139 ls (.long x.toInt64 :: st) h := e_go dX5_readFact_138 rfl rfl
theorem wX5_readFact_139 : E_ d mX5_readFact 139 ls st h = E_ d mX5_readFact 142 ls (.long (22) :: st) h := e_go dX5_readFact_139 rfl rfl
theorem wX5_readFact_142 : E_ d mX5_readFact 142 ls st h = E_ d mX5_readFact 145 ls (.long (28) :: st) h := e_go dX5_readFact_142 rfl rfl
theorem wX5_readFact_145 : E_ (d + 1) mX5_readFact 145 ls [.long u3, .long u2, .long u1] h = (C_ d mX5_within [.long u1, .long u2, .long u3] h).bind fun r => E_ (d + 1) mX5_readFact 148 ls (xpu r.1 []) r.2 := e_call dX5_readFact_145 rfl rfl
theorem wX5_readFact_148 : E_ d mX5_readFact 148 ls (.int x :: st) h = if x = 0 then E_ d mX5_readFact 151 ls st h else E_ d mX5_readFact 156 ls st h := e_zne dX5_readFact_148 rfl rfl
theorem wX5_readFact_151 : E_ d mX5_readFact 151 [.val (.ref a), s1, s2] st h = E_ d mX5_readFact 152 [.val (.ref a), s1, s2] (.ref a :: st) h := e_go dX5_readFact_151 rfl rfl
theorem wX5_readFact_152 : E_ d mX5_readFact 152 ls st h = E_ d mX5_readFact 153 ls (.int (nI 2) :: st) h := e_iconst dX5_readFact_152 kiconst_2 rfl
theorem wX5_readFact_153 (ht : oT h a = 7) : E_ (d + 1) mX5_readFact 153 ls [.int x1, .ref a] h = (C_ d mX5_fails [.ref a, .int x1] h).bind fun r => E_ (d + 1) mX5_readFact 156 ls (xpu r.1 []) r.2 := e_vir dX5_readFact_153 rfl rfl rfl rfl rfl rfl (Nat.le_of_ble_eq_true rfl) (Nat.le_of_ble_eq_true rfl) ht
theorem wX5_readFact_156 : E_ d mX5_readFact 156 [.val (.ref a), s1, s2] st h = E_ d mX5_readFact 157 [.val (.ref a), s1, s2] (.ref a :: st) h := e_go dX5_readFact_156 rfl rfl
theorem wX5_readFact_157 (ht : oT h a = 7) : E_ d mX5_readFact 157 ls (.ref a :: st) h = E_ d mX5_readFact 160 ls (.int (oI h a 12) :: st) h := e_getI dX5_readFact_157 rfl rfl ht
theorem wX5_readFact_160 : E_ d mX5_readFact 160 ls (.int x :: st) h = if x = 0 then E_ d mX5_readFact 164 ls st h else E_ d mX5_readFact 163 ls st h := e_zeq dX5_readFact_160 rfl rfl
theorem wX5_readFact_163 : E_ d mX5_readFact 163 ls [] h = some (none, h) := e_rt dX5_readFact_163 rfl rfl
theorem wX5_readFact_164 : E_ d mX5_readFact 164 [.val (.ref a), s1, s2] st h = E_ d mX5_readFact 165 [.val (.ref a), s1, s2] (.ref a :: st) h := e_go dX5_readFact_164 rfl rfl
theorem wX5_readFact_165 (ht : oT h a = 7) : E_ (d + 1) mX5_readFact 165 ls [.ref a] h = (C_ d mX5_next [.ref a] h).bind fun r => E_ (d + 1) mX5_readFact 168 ls (xpu r.1 []) r.2 := e_vir dX5_readFact_165 rfl rfl rfl rfl rfl rfl (Nat.le_of_ble_eq_true rfl) (Nat.le_of_ble_eq_true rfl) ht
theorem wX5_readFact_168 : E_ d mX5_readFact 168 [s0, .val (.int x), s2] st h = E_ d mX5_readFact 169 [s0, .val (.int x), s2] (.int x :: st) h := e_go dX5_readFact_168 rfl rfl
theorem wX5_readFact_169 : E_ d mX5_readFact 169 ls st h = E_ d mX5_readFact 170 ls (.int (nI 4) :: st) h := e_iconst dX5_readFact_169 kiconst_4 rfl
theorem wX5_readFact_170 : E_ d mX5_readFact 170 ls (.int y :: .int x :: st) h = if x = y then E_ d mX5_readFact 187 ls st h else E_ d mX5_readFact 173 ls st h := e_ieq dX5_readFact_170 rfl rfl
theorem wX5_readFact_173 : E_ d mX5_readFact 173 [s0, .val (.int x), s2] st h = E_ d mX5_readFact 174 [s0, .val (.int x), s2] (.int x :: st) h := e_go dX5_readFact_173 rfl rfl
theorem wX5_readFact_174 : E_ d mX5_readFact 174 ls (.int x :: st) h = E_ d mX5_readFact 175 ls (.long x.toInt64 :: st) h := e_go dX5_readFact_174 rfl rfl
theorem wX5_readFact_175 : E_ d mX5_readFact 175 ls st h = E_ d mX5_readFact 178 ls (.long (22) :: st) h := e_go dX5_readFact_175 rfl rfl
theorem wX5_readFact_178 : E_ d mX5_readFact 178 ls st h = E_ d mX5_readFact 181 ls (.long (24) :: st) h := e_go dX5_readFact_178 rfl rfl
theorem wX5_readFact_181 : E_ (d + 1) mX5_readFact 181 ls [.long u3, .long u2, .long u1] h = (C_ d mX5_within [.long u1, .long u2, .long u3] h).bind fun r => E_ (d + 1) mX5_readFact 184 ls (xpu r.1 []) r.2 := e_call dX5_readFact_181 rfl rfl
theorem wX5_readFact_184 : E_ d mX5_readFact 184 ls (.int x :: st) h = if x = 0 then E_ d mX5_readFact 198 ls st h else E_ d mX5_readFact 187 ls st h := e_zeq dX5_readFact_184 rfl rfl
theorem wX5_readFact_187 : E_ d mX5_readFact 187 [.val (.ref a), s1, s2] st h = E_ d mX5_readFact 188 [.val (.ref a), s1, s2] (.ref a :: st) h := e_go dX5_readFact_187 rfl rfl
theorem wX5_readFact_188 : E_ d mX5_readFact 188 ls st h = E_ d mX5_readFact 189 ls (.int (nI 0) :: st) h := e_iconst dX5_readFact_188 kiconst_0 rfl
theorem wX5_readFact_189 : E_ d mX5_readFact 189 ls st h = E_ d mX5_readFact 192 ls (.int (nI 999) :: st) h := e_sipush dX5_readFact_189 ksipush_999 rfl
theorem wX5_readFact_192 (ht : oT h a = 7) : E_ (d + 1) mX5_readFact 192 ls [.int x2, .int x1, .ref a] h = (C_ d mX5_takes [.ref a, .int x1, .int x2] h).bind fun r => E_ (d + 1) mX5_readFact 195 ls (xpu r.1 []) r.2 := e_vir dX5_readFact_192 rfl rfl rfl rfl rfl rfl (Nat.le_of_ble_eq_true rfl) (Nat.le_of_ble_eq_true rfl) ht
theorem wX5_readFact_195 : E_ d mX5_readFact 195 ls st h = E_ d mX5_readFact 199 ls st h := e_gt dX5_readFact_195 rfl
theorem wX5_readFact_198 : E_ d mX5_readFact 198 ls st h = E_ d mX5_readFact 199 ls (.int (nI 0) :: st) h := e_iconst dX5_readFact_198 kiconst_0 rfl
theorem wX5_readFact_199 : E_ d mX5_readFact 199 [s0, s1, s2] (.int x :: st) h = E_ d mX5_readFact 200 [s0, xk s1, .val (.int x)] st h := e_go dX5_readFact_199 rfl rfl
theorem wX5_readFact_200 : E_ d mX5_readFact 200 [.val (.ref a), s1, s2] st h = E_ d mX5_readFact 201 [.val (.ref a), s1, s2] (.ref a :: st) h := e_go dX5_readFact_200 rfl rfl
theorem wX5_readFact_201 (ht : oT h a = 7) : E_ d mX5_readFact 201 ls (.ref a :: st) h = E_ d mX5_readFact 204 ls (.int (oI h a 12) :: st) h := e_getI dX5_readFact_201 rfl rfl ht
theorem wX5_readFact_204 : E_ d mX5_readFact 204 ls (.int x :: st) h = if x = 0 then E_ d mX5_readFact 207 ls st h else E_ d mX5_readFact 213 ls st h := e_zne dX5_readFact_204 rfl rfl
theorem wX5_readFact_207 : E_ d mX5_readFact 207 [.val (.ref a), s1, s2] st h = E_ d mX5_readFact 208 [.val (.ref a), s1, s2] (.ref a :: st) h := e_go dX5_readFact_207 rfl rfl
theorem wX5_readFact_208 : E_ d mX5_readFact 208 [s0, .val (.int x), s2] st h = E_ d mX5_readFact 209 [s0, .val (.int x), s2] (.int x :: st) h := e_go dX5_readFact_208 rfl rfl
theorem wX5_readFact_209 : E_ d mX5_readFact 209 [s0, s1, .val (.int x)] st h = E_ d mX5_readFact 210 [s0, s1, .val (.int x)] (.int x :: st) h := e_go dX5_readFact_209 rfl rfl
theorem wX5_readFact_210 (ht : oT h a = 7) : E_ (d + 1) mX5_readFact 210 ls [.int x2, .int x1, .ref a] h = (C_ d mX5_emit [.ref a, .int x1, .int x2] h).bind fun r => E_ (d + 1) mX5_readFact 213 ls (xpu r.1 []) r.2 := e_vir dX5_readFact_210 rfl rfl rfl rfl rfl rfl (Nat.le_of_ble_eq_true rfl) (Nat.le_of_ble_eq_true rfl) ht
theorem wX5_readFact_213 : E_ d mX5_readFact 213 ls [] h = some (none, h) := e_rt dX5_readFact_213 rfl rfl
/-! FootOutModel.emit -/
theorem wX5_emit_0 : E_ d mX5_emit 0 [.val (.ref a), s1, s2] st h = E_ d mX5_emit 1 [.val (.ref a), s1, s2] (.ref a :: st) h := e_go dX5_emit_0 rfl rfl
theorem wX5_emit_1 (ht : oT h a = 7) : E_ d mX5_emit 1 ls (.ref a :: st) h = E_ d mX5_emit 4 ls (va_rf (oR h a 5) :: st) h := e_getR0 dX5_emit_1 rfl rfl ht
theorem wX5_emit_4 : E_ d mX5_emit 4 ls st h = E_ d mX5_emit 6 ls (.int (nI 77) :: st) h := e_bipush dX5_emit_4 kbipush_77 rfl
theorem wX5_emit_6 : E_ d mX5_emit 6 ls st h = E_ d mX5_emit 7 ls (.int (nI 2) :: st) h := e_iconst dX5_emit_6 kiconst_2 rfl
theorem wX5_emit_7 : E_ d mX5_emit 7 [.val (.ref a), s1, s2] st h = E_ d mX5_emit 8 [.val (.ref a), s1, s2] (.ref a :: st) h := e_go dX5_emit_7 rfl rfl
theorem wX5_emit_8 (ht : oT h a = 7) : E_ d mX5_emit 8 ls (.ref a :: st) h = E_ d mX5_emit 11 ls (.int (oI h a 15) :: st) h := e_getI dX5_emit_8 rfl rfl ht
theorem wX5_emit_11 : E_ d mX5_emit 11 ls (.int y :: .int x :: st) h = E_ d mX5_emit 12 ls (.int (x * y) :: st) h := e_go dX5_emit_11 rfl rfl
theorem wX5_emit_12 : E_ d mX5_emit 12 ls (.int y :: .int x :: st) h = E_ d mX5_emit 13 ls (.int (x + y) :: st) h := e_go dX5_emit_12 rfl rfl
theorem wX5_emit_13 : E_ d mX5_emit 13 [s0, .val (.int x), s2] st h = E_ d mX5_emit 14 [s0, .val (.int x), s2] (.int x :: st) h := e_go dX5_emit_13 rfl rfl
theorem wX5_emit_14 (ht : oT h a = 40) (hi : xix x (oN h a) = true) : E_ d mX5_emit 14 ls (.int y :: .int x :: .ref a :: st) h = E_ d mX5_emit 15 ls st (pI h a (va_up (oI h a) x.toNatClampNeg y)) := e_iast dX5_emit_14 rfl ht hi
theorem wX5_emit_15 : E_ d mX5_emit 15 [.val (.ref a), s1, s2] st h = E_ d mX5_emit 16 [.val (.ref a), s1, s2] (.ref a :: st) h := e_go dX5_emit_15 rfl rfl
theorem wX5_emit_16 (ht : oT h a = 7) : E_ d mX5_emit 16 ls (.ref a :: st) h = E_ d mX5_emit 19 ls (va_rf (oR h a 5) :: st) h := e_getR0 dX5_emit_16 rfl rfl ht
theorem wX5_emit_19 : E_ d mX5_emit 19 ls st h = E_ d mX5_emit 21 ls (.int (nI 77) :: st) h := e_bipush dX5_emit_19 kbipush_77 rfl
theorem wX5_emit_21 : E_ d mX5_emit 21 ls st h = E_ d mX5_emit 22 ls (.int (nI 2) :: st) h := e_iconst dX5_emit_21 kiconst_2 rfl
theorem wX5_emit_22 : E_ d mX5_emit 22 [.val (.ref a), s1, s2] st h = E_ d mX5_emit 23 [.val (.ref a), s1, s2] (.ref a :: st) h := e_go dX5_emit_22 rfl rfl
theorem wX5_emit_23 (ht : oT h a = 7) : E_ d mX5_emit 23 ls (.ref a :: st) h = E_ d mX5_emit 26 ls (.int (oI h a 15) :: st) h := e_getI dX5_emit_23 rfl rfl ht
theorem wX5_emit_26 : E_ d mX5_emit 26 ls (.int y :: .int x :: st) h = E_ d mX5_emit 27 ls (.int (x * y) :: st) h := e_go dX5_emit_26 rfl rfl
theorem wX5_emit_27 : E_ d mX5_emit 27 ls (.int y :: .int x :: st) h = E_ d mX5_emit 28 ls (.int (x + y) :: st) h := e_go dX5_emit_27 rfl rfl
theorem wX5_emit_28 : E_ d mX5_emit 28 ls st h = E_ d mX5_emit 29 ls (.int (nI 1) :: st) h := e_iconst dX5_emit_28 kiconst_1 rfl
theorem wX5_emit_29 : E_ d mX5_emit 29 ls (.int y :: .int x :: st) h = E_ d mX5_emit 30 ls (.int (x + y) :: st) h := e_go dX5_emit_29 rfl rfl
theorem wX5_emit_30 : E_ d mX5_emit 30 [s0, s1, .val (.int x)] st h = E_ d mX5_emit 31 [s0, s1, .val (.int x)] (.int x :: st) h := e_go dX5_emit_30 rfl rfl
theorem wX5_emit_31 (ht : oT h a = 40) (hi : xix x (oN h a) = true) : E_ d mX5_emit 31 ls (.int y :: .int x :: .ref a :: st) h = E_ d mX5_emit 32 ls st (pI h a (va_up (oI h a) x.toNatClampNeg y)) := e_iast dX5_emit_31 rfl ht hi
theorem wX5_emit_32 : E_ d mX5_emit 32 [.val (.ref a), s1, s2] st h = E_ d mX5_emit 33 [.val (.ref a), s1, s2] (.ref a :: st) h := e_go dX5_emit_32 rfl rfl
theorem wX5_emit_33 : E_ d mX5_emit 33 ls (.ref a :: st) h = E_ d mX5_emit 34 ls (.ref a :: .ref a :: st) h := e_go dX5_emit_33 rfl rfl
theorem wX5_emit_34 (ht : oT h a = 7) : E_ d mX5_emit 34 ls (.ref a :: st) h = E_ d mX5_emit 37 ls (.int (oI h a 15) :: st) h := e_getI dX5_emit_34 rfl rfl ht
theorem wX5_emit_37 : E_ d mX5_emit 37 ls st h = E_ d mX5_emit 38 ls (.int (nI 1) :: st) h := e_iconst dX5_emit_37 kiconst_1 rfl
theorem wX5_emit_38 : E_ d mX5_emit 38 ls (.int y :: .int x :: st) h = E_ d mX5_emit 39 ls (.int (x + y) :: st) h := e_go dX5_emit_38 rfl rfl
theorem wX5_emit_39 (ht : oT h a = 7) : E_ d mX5_emit 39 ls (.int x :: .ref a :: st) h = E_ d mX5_emit 42 ls st (pI h a (va_up (oI h a) 15 x)) := e_putI dX5_emit_39 rfl rfl ht
theorem wX5_emit_42 : E_ d mX5_emit 42 ls [] h = some (none, h) := e_rt dX5_emit_42 rfl rfl
/-! FootOutModel.fault -/
theorem wX5_fault_0 : E_ d mX5_fault 0 [.val (.ref a), s1] st h = E_ d mX5_fault 1 [.val (.ref a), s1] (.ref a :: st) h := e_go dX5_fault_0 rfl rfl
theorem wX5_fault_1 : E_ d mX5_fault 1 ls st h = E_ d mX5_fault 2 ls (.int (nI 0) :: st) h := e_iconst dX5_fault_1 kiconst_0 rfl
theorem wX5_fault_2 (ht : oT h a = 7) : E_ d mX5_fault 2 ls (.int x :: .ref a :: st) h = E_ d mX5_fault 5 ls st (pI h a (va_up (oI h a) 0 x)) := e_putI dX5_fault_2 rfl rfl ht
theorem wX5_fault_5 : E_ d mX5_fault 5 [s0, .val (.int x)] st h = E_ d mX5_fault 6 [s0, .val (.int x)] (.int x :: st) h := e_go dX5_fault_5 rfl rfl
theorem wX5_fault_6 : E_ d mX5_fault 6 ls (.int x :: st) h = if x = 0 then E_ d mX5_fault 9 ls st h else E_ d mX5_fault 16 ls st h := e_zne dX5_fault_6 rfl rfl
theorem wX5_fault_9 : E_ d mX5_fault 9 [.val (.ref a), s1] st h = E_ d mX5_fault 10 [.val (.ref a), s1] (.ref a :: st) h := e_go dX5_fault_9 rfl rfl
theorem wX5_fault_10 (ht : oT h a = 7) : E_ d mX5_fault 10 ls (.ref a :: st) h = E_ d mX5_fault 13 ls (.int (oI h a 16) :: st) h := e_getI dX5_fault_10 rfl rfl ht
theorem wX5_fault_13 : E_ d mX5_fault 13 ls st h = E_ d mX5_fault 29 ls st h := e_gt dX5_fault_13 rfl
theorem wX5_fault_16 : E_ d mX5_fault 16 [s0, .val (.int x)] st h = E_ d mX5_fault 17 [s0, .val (.int x)] (.int x :: st) h := e_go dX5_fault_16 rfl rfl
theorem wX5_fault_17 : E_ d mX5_fault 17 ls st h = E_ d mX5_fault 18 ls (.int (nI 1) :: st) h := e_iconst dX5_fault_17 kiconst_1 rfl
theorem wX5_fault_18 : E_ d mX5_fault 18 ls (.int y :: .int x :: st) h = if x = y then E_ d mX5_fault 21 ls st h else E_ d mX5_fault 28 ls st h := e_ine dX5_fault_18 rfl rfl
theorem wX5_fault_21 : E_ d mX5_fault 21 [.val (.ref a), s1] st h = E_ d mX5_fault 22 [.val (.ref a), s1] (.ref a :: st) h := e_go dX5_fault_21 rfl rfl
theorem wX5_fault_22 (ht : oT h a = 7) : E_ d mX5_fault 22 ls (.ref a :: st) h = E_ d mX5_fault 25 ls (.int (oI h a 17) :: st) h := e_getI dX5_fault_22 rfl rfl ht
theorem wX5_fault_25 : E_ d mX5_fault 25 ls st h = E_ d mX5_fault 29 ls st h := e_gt dX5_fault_25 rfl
theorem wX5_fault_28 : E_ d mX5_fault 28 ls st h = E_ d mX5_fault 29 ls (.int ((-1)) :: st) h := e_iconst dX5_fault_28 kiconst_m1 rfl
theorem wX5_fault_29 : E_ d mX5_fault 29 ls [.int x] h = some (some (.int x), h) := e_rt dX5_fault_29 rfl rfl
/-! FootOutModel.car -/
theorem wX5_car_0 : E_ d mX5_car 0 [.val (.ref a), s1, s2] st h = E_ d mX5_car 1 [.val (.ref a), s1, s2] (.ref a :: st) h := e_go dX5_car_0 rfl rfl
theorem wX5_car_1 : E_ d mX5_car 1 ls st h = E_ d mX5_car 2 ls (.int (nI 0) :: st) h := e_iconst dX5_car_1 kiconst_0 rfl
theorem wX5_car_2 (ht : oT h a = 7) : E_ d mX5_car 2 ls (.int x :: .ref a :: st) h = E_ d mX5_car 5 ls st (pI h a (va_up (oI h a) 0 x)) := e_putI dX5_car_2 rfl rfl ht
theorem wX5_car_5 : E_ d mX5_car 5 [.val (.ref a), s1, s2] st h = E_ d mX5_car 6 [.val (.ref a), s1, s2] (.ref a :: st) h := e_go dX5_car_5 rfl rfl
theorem wX5_car_6 : E_ d mX5_car 6 [s0, .val (.int x), s2] st h = E_ d mX5_car 7 [s0, .val (.int x), s2] (.int x :: st) h := e_go dX5_car_6 rfl rfl
theorem wX5_car_7 (ht : oT h a = 7) : E_ (d + 1) mX5_car 7 ls [.int x1, .ref a] h = (C_ d mX5_isCar [.ref a, .int x1] h).bind fun r => E_ (d + 1) mX5_car 10 ls (xpu r.1 []) r.2 := e_vir dX5_car_7 rfl rfl rfl rfl rfl rfl (Nat.le_of_ble_eq_true rfl) (Nat.le_of_ble_eq_true rfl) ht
theorem wX5_car_10 : E_ d mX5_car 10 ls (.int x :: st) h = if x = 0 then E_ d mX5_car 25 ls st h else E_ d mX5_car 13 ls st h := e_zeq dX5_car_10 rfl rfl
theorem wX5_car_13 : E_ d mX5_car 13 [s0, s1, .val (.int x)] st h = E_ d mX5_car 14 [s0, s1, .val (.int x)] (.int x :: st) h := e_go dX5_car_13 rfl rfl
theorem wX5_car_14 : E_ d mX5_car 14 ls (.int x :: st) h = E_ d mX5_car 15 ls (.long x.toInt64 :: st) h := e_go dX5_car_14 rfl rfl
theorem wX5_car_15 : E_ d mX5_car 15 ls st h = E_ d mX5_car 16 ls (.long 0 :: st) h := e_go dX5_car_15 rfl rfl
theorem wX5_car_16 : E_ d mX5_car 16 ls st h = E_ d mX5_car 19 ls (.long (3) :: st) h := e_go dX5_car_16 rfl rfl
theorem wX5_car_19 : E_ (d + 1) mX5_car 19 ls [.long u3, .long u2, .long u1] h = (C_ d mX5_within [.long u1, .long u2, .long u3] h).bind fun r => E_ (d + 1) mX5_car 22 ls (xpu r.1 []) r.2 := e_call dX5_car_19 rfl rfl
theorem wX5_car_22 : E_ d mX5_car 22 ls (.int x :: st) h = if x = 0 then E_ d mX5_car 25 ls st h else E_ d mX5_car 32 ls st h := e_zne dX5_car_22 rfl rfl
theorem wX5_car_25 : E_ d mX5_car 25 [.val (.ref a), s1, s2] st h = E_ d mX5_car 26 [.val (.ref a), s1, s2] (.ref a :: st) h := e_go dX5_car_25 rfl rfl
theorem wX5_car_26 : E_ d mX5_car 26 ls st h = E_ d mX5_car 28 ls (.int ((-2)) :: st) h := e_bipush dX5_car_26 kbipush_m2 rfl
theorem wX5_car_28 (ht : oT h a = 7) : E_ (d + 1) mX5_car 28 ls [.int x1, .ref a] h = (C_ d mX5_no [.ref a, .int x1] h).bind fun r => E_ (d + 1) mX5_car 31 ls (xpu r.1 []) r.2 := e_vir dX5_car_28 rfl rfl rfl rfl rfl rfl (Nat.le_of_ble_eq_true rfl) (Nat.le_of_ble_eq_true rfl) ht
theorem wX5_car_31 : E_ d mX5_car 31 ls [.int x] h = some (some (.int x), h) := e_rt dX5_car_31 rfl rfl
theorem wX5_car_32 : E_ d mX5_car 32 [.val (.ref a), s1, s2] st h = E_ d mX5_car 33 [.val (.ref a), s1, s2] (.ref a :: st) h := e_go dX5_car_32 rfl rfl
theorem wX5_car_33 (ht : oT h a = 7) : E_ d mX5_car 33 ls (.ref a :: st) h = E_ d mX5_car 36 ls (va_rf (oR h a 2) :: st) h := e_getR0 dX5_car_33 rfl rfl ht
theorem wX5_car_36 : E_ d mX5_car 36 ls st h = E_ d mX5_car 37 ls (.int (nI 2) :: st) h := e_iconst dX5_car_36 kiconst_2 rfl
theorem wX5_car_37 : E_ d mX5_car 37 ls st h = E_ d mX5_car 39 ls (.int (nI 8) :: st) h := e_bipush dX5_car_37 kbipush_8 rfl
theorem wX5_car_39 : E_ d mX5_car 39 [s0, s1, .val (.int x)] st h = E_ d mX5_car 40 [s0, s1, .val (.int x)] (.int x :: st) h := e_go dX5_car_39 rfl rfl
theorem wX5_car_40 : E_ d mX5_car 40 ls (.int y :: .int x :: st) h = E_ d mX5_car 41 ls (.int (x * y) :: st) h := e_go dX5_car_40 rfl rfl
theorem wX5_car_41 : E_ d mX5_car 41 ls (.int y :: .int x :: st) h = E_ d mX5_car 42 ls (.int (x + y) :: st) h := e_go dX5_car_41 rfl rfl
theorem wX5_car_42 : E_ d mX5_car 42 [s0, .val (.int x), s2] st h = E_ d mX5_car 43 [s0, .val (.int x), s2] (.int x :: st) h := e_go dX5_car_42 rfl rfl
theorem wX5_car_43 : E_ d mX5_car 43 ls (.int y :: .int x :: st) h = E_ d mX5_car 44 ls (.int (x + y) :: st) h := e_go dX5_car_43 rfl rfl
theorem wX5_car_44 (ht : oT h a = 40) (hi : xix x (oN h a) = true) : E_ d mX5_car 44 ls (.int x :: .ref a :: st) h = E_ d mX5_car 45 ls (.int (oI h a x.toNatClampNeg) :: st) h := e_iald dX5_car_44 rfl ht hi
theorem wX5_car_45 : E_ d mX5_car 45 ls [.int x] h = some (some (.int x), h) := e_rt dX5_car_45 rfl rfl
/-! FootOutModel.isCar -/
theorem wX5_isCar_0 : E_ d mX5_isCar 0 [s0, .val (.int x)] st h = E_ d mX5_isCar 1 [s0, .val (.int x)] (.int x :: st) h := e_go dX5_isCar_0 rfl rfl
theorem wX5_isCar_1 : E_ d mX5_isCar 1 ls (.int x :: st) h = E_ d mX5_isCar 2 ls (.long x.toInt64 :: st) h := e_go dX5_isCar_1 rfl rfl
theorem wX5_isCar_2 : E_ d mX5_isCar 2 ls st h = E_ d mX5_isCar 3 ls (.long 0 :: st) h := e_go dX5_isCar_2 rfl rfl
theorem wX5_isCar_3 : E_ d mX5_isCar 3 [.val (.ref a), s1] st h = E_ d mX5_isCar 4 [.val (.ref a), s1] (.ref a :: st) h := e_go dX5_isCar_3 rfl rfl
theorem wX5_isCar_4 (ht : oT h a = 7) : E_ d mX5_isCar 4 ls (.ref a :: st) h = E_ d mX5_isCar 7 ls (va_rf (oR h a 2) :: st) h := e_getR0 dX5_isCar_4 rfl rfl ht
theorem wX5_isCar_7 : E_ d mX5_isCar 7 ls st h = E_ d mX5_isCar 8 ls (.int (nI 1) :: st) h := e_iconst dX5_isCar_7 kiconst_1 rfl
theorem wX5_isCar_8 (ht : oT h a = 40) (hi : xix x (oN h a) = true) : E_ d mX5_isCar 8 ls (.int x :: .ref a :: st) h = E_ d mX5_isCar 9 ls (.int (oI h a x.toNatClampNeg) :: st) h := e_iald dX5_isCar_8 rfl ht hi
theorem wX5_isCar_9 : E_ d mX5_isCar 9 ls st h = E_ d mX5_isCar 10 ls (.int (nI 1) :: st) h := e_iconst dX5_isCar_9 kiconst_1 rfl
theorem wX5_isCar_10 : E_ d mX5_isCar 10 ls (.int y :: .int x :: st) h = E_ d mX5_isCar 11 ls (.int (x - y) :: st) h := e_go dX5_isCar_10 rfl rfl
theorem wX5_isCar_11 : E_ d mX5_isCar 11 ls (.int x :: st) h = E_ d mX5_isCar 12 ls (.long x.toInt64 :: st) h := e_go dX5_isCar_11 rfl rfl
theorem wX5_isCar_12 : E_ (d + 1) mX5_isCar 12 ls [.long u3, .long u2, .long u1] h = (C_ d mX5_within [.long u1, .long u2, .long u3] h).bind fun r => E_ (d + 1) mX5_isCar 15 ls (xpu r.1 []) r.2 := e_call dX5_isCar_12 rfl rfl
theorem wX5_isCar_15 (hx : x = 0 ∨ x = 1) : E_ d mX5_isCar 15 ls [.int x] h = some (some (.int x), h) := e_rtZ dX5_isCar_15 rfl hx
/-! FootOutModel.trait -/
theorem wX5_trait_0 : E_ d mX5_trait 0 [.val (.ref a), s1, s2, s3] st h = E_ d mX5_trait 1 [.val (.ref a), s1, s2, s3] (.ref a :: st) h := e_go dX5_trait_0 rfl rfl
theorem wX5_trait_1 : E_ d mX5_trait 1 ls st h = E_ d mX5_trait 2 ls (.int (nI 0) :: st) h := e_iconst dX5_trait_1 kiconst_0 rfl
theorem wX5_trait_2 (ht : oT h a = 7) : E_ d mX5_trait 2 ls (.int x :: .ref a :: st) h = E_ d mX5_trait 5 ls st (pI h a (va_up (oI h a) 0 x)) := e_putI dX5_trait_2 rfl rfl ht
theorem wX5_trait_5 : E_ d mX5_trait 5 [s0, .val (.int x), s2, s3] st h = E_ d mX5_trait 6 [s0, .val (.int x), s2, s3] (.int x :: st) h := e_go dX5_trait_5 rfl rfl
theorem wX5_trait_6 : E_ d mX5_trait 6 ls (.int x :: st) h = E_ d mX5_trait 7 ls (.long x.toInt64 :: st) h := e_go dX5_trait_6 rfl rfl
theorem wX5_trait_7 : E_ d mX5_trait 7 ls st h = E_ d mX5_trait 8 ls (.long 0 :: st) h := e_go dX5_trait_7 rfl rfl
theorem wX5_trait_8 : E_ d mX5_trait 8 ls st h = E_ d mX5_trait 11 ls (.long (7) :: st) h := e_go dX5_trait_8 rfl rfl
theorem wX5_trait_11 : E_ (d + 1) mX5_trait 11 ls [.long u3, .long u2, .long u1] h = (C_ d mX5_within [.long u1, .long u2, .long u3] h).bind fun r => E_ (d + 1) mX5_trait 14 ls (xpu r.1 []) r.2 := e_call dX5_trait_11 rfl rfl
theorem wX5_trait_14 : E_ d mX5_trait 14 ls (.int x :: st) h = if x = 0 then E_ d mX5_trait 17 ls st h else E_ d mX5_trait 24 ls st h := e_zne dX5_trait_14 rfl rfl
theorem wX5_trait_17 : E_ d mX5_trait 17 [.val (.ref a), s1, s2, s3] st h = E_ d mX5_trait 18 [.val (.ref a), s1, s2, s3] (.ref a :: st) h := e_go dX5_trait_17 rfl rfl
theorem wX5_trait_18 : E_ d mX5_trait 18 ls st h = E_ d mX5_trait 20 ls (.int ((-2)) :: st) h := e_bipush dX5_trait_18 kbipush_m2 rfl
theorem wX5_trait_20 (ht : oT h a = 7) : E_ (d + 1) mX5_trait 20 ls [.int x1, .ref a] h = (C_ d mX5_no [.ref a, .int x1] h).bind fun r => E_ (d + 1) mX5_trait 23 ls (xpu r.1 []) r.2 := e_vir dX5_trait_20 rfl rfl rfl rfl rfl rfl (Nat.le_of_ble_eq_true rfl) (Nat.le_of_ble_eq_true rfl) ht
theorem wX5_trait_23 : E_ d mX5_trait 23 ls [.int x] h = some (some (.int x), h) := e_rt dX5_trait_23 rfl rfl
theorem wX5_trait_24 : E_ d mX5_trait 24 [.val (.ref a), s1, s2, s3] st h = E_ d mX5_trait 25 [.val (.ref a), s1, s2, s3] (.ref a :: st) h := e_go dX5_trait_24 rfl rfl
theorem wX5_trait_25 (ht : oT h a = 7) : E_ d mX5_trait 25 ls (.ref a :: st) h = E_ d mX5_trait 28 ls (va_rf (oR h a 2) :: st) h := e_getR0 dX5_trait_25 rfl rfl ht
theorem wX5_trait_28 : E_ d mX5_trait 28 ls st h = E_ d mX5_trait 30 ls (.int (nI 34) :: st) h := e_bipush dX5_trait_28 kbipush_34 rfl
theorem wX5_trait_30 (ht : oT h a = 40) (hi : xix x (oN h a) = true) : E_ d mX5_trait 30 ls (.int x :: .ref a :: st) h = E_ d mX5_trait 31 ls (.int (oI h a x.toNatClampNeg) :: st) h := e_iald dX5_trait_30 rfl ht hi
theorem wX5_trait_31 : E_ d mX5_trait 31 [s0, .val (.int x), s2, s3] st h = E_ d mX5_trait 32 [s0, .val (.int x), s2, s3] (.int x :: st) h := e_go dX5_trait_31 rfl rfl
theorem wX5_trait_32 : E_ d mX5_trait 32 ls (.int y :: .int x :: st) h = E_ d mX5_trait 33 ls (.int (x >>> (y &&& 31)) :: st) h := e_go dX5_trait_32 rfl rfl
theorem wX5_trait_33 : E_ d mX5_trait 33 ls st h = E_ d mX5_trait 34 ls (.int (nI 1) :: st) h := e_iconst dX5_trait_33 kiconst_1 rfl
theorem wX5_trait_34 : E_ d mX5_trait 34 ls (.int y :: .int x :: st) h = E_ d mX5_trait 35 ls (.int (x &&& y) :: st) h := e_go dX5_trait_34 rfl rfl
theorem wX5_trait_35 : E_ d mX5_trait 35 [s0, s1, s2, s3] (.int x :: st) h = E_ d mX5_trait 36 [s0, s1, xk s2, .val (.int x)] st h := e_go dX5_trait_35 rfl rfl
theorem wX5_trait_36 : E_ d mX5_trait 36 [.val (.ref a), s1, s2, s3] st h = E_ d mX5_trait 37 [.val (.ref a), s1, s2, s3] (.ref a :: st) h := e_go dX5_trait_36 rfl rfl
theorem wX5_trait_37 (ht : oT h a = 7) : E_ d mX5_trait 37 ls (.ref a :: st) h = E_ d mX5_trait 40 ls (va_rf (oR h a 2) :: st) h := e_getR0 dX5_trait_37 rfl rfl ht
theorem wX5_trait_40 : E_ d mX5_trait 40 ls st h = E_ d mX5_trait 42 ls (.int (nI 34) :: st) h := e_bipush dX5_trait_40 kbipush_34 rfl
theorem wX5_trait_42 : E_ d mX5_trait 42 [s0, s1, .val (.int x), s3] st h = E_ d mX5_trait 43 [s0, s1, .val (.int x), s3] (.int x :: st) h := e_go dX5_trait_42 rfl rfl
theorem wX5_trait_43 : E_ d mX5_trait 43 ls (.int x :: st) h = if x = 0 then E_ d mX5_trait 60 ls st h else E_ d mX5_trait 46 ls st h := e_zeq dX5_trait_43 rfl rfl
theorem wX5_trait_46 : E_ d mX5_trait 46 [.val (.ref a), s1, s2, s3] st h = E_ d mX5_trait 47 [.val (.ref a), s1, s2, s3] (.ref a :: st) h := e_go dX5_trait_46 rfl rfl
theorem wX5_trait_47 (ht : oT h a = 7) : E_ d mX5_trait 47 ls (.ref a :: st) h = E_ d mX5_trait 50 ls (va_rf (oR h a 2) :: st) h := e_getR0 dX5_trait_47 rfl rfl ht
theorem wX5_trait_50 : E_ d mX5_trait 50 ls st h = E_ d mX5_trait 52 ls (.int (nI 34) :: st) h := e_bipush dX5_trait_50 kbipush_34 rfl
theorem wX5_trait_52 (ht : oT h a = 40) (hi : xix x (oN h a) = true) : E_ d mX5_trait 52 ls (.int x :: .ref a :: st) h = E_ d mX5_trait 53 ls (.int (oI h a x.toNatClampNeg) :: st) h := e_iald dX5_trait_52 rfl ht hi
theorem wX5_trait_53 : E_ d mX5_trait 53 ls st h = E_ d mX5_trait 54 ls (.int (nI 1) :: st) h := e_iconst dX5_trait_53 kiconst_1 rfl
theorem wX5_trait_54 : E_ d mX5_trait 54 [s0, .val (.int x), s2, s3] st h = E_ d mX5_trait 55 [s0, .val (.int x), s2, s3] (.int x :: st) h := e_go dX5_trait_54 rfl rfl
theorem wX5_trait_55 : E_ d mX5_trait 55 ls (.int y :: .int x :: st) h = E_ d mX5_trait 56 ls (.int (x <<< (y &&& 31)) :: st) h := e_go dX5_trait_55 rfl rfl
theorem wX5_trait_56 : E_ d mX5_trait 56 ls (.int y :: .int x :: st) h = E_ d mX5_trait 57 ls (.int (x ||| y) :: st) h := e_go dX5_trait_56 rfl rfl
theorem wX5_trait_57 : E_ d mX5_trait 57 ls st h = E_ d mX5_trait 73 ls st h := e_gt dX5_trait_57 rfl
theorem wX5_trait_60 : E_ d mX5_trait 60 [.val (.ref a), s1, s2, s3] st h = E_ d mX5_trait 61 [.val (.ref a), s1, s2, s3] (.ref a :: st) h := e_go dX5_trait_60 rfl rfl
theorem wX5_trait_61 (ht : oT h a = 7) : E_ d mX5_trait 61 ls (.ref a :: st) h = E_ d mX5_trait 64 ls (va_rf (oR h a 2) :: st) h := e_getR0 dX5_trait_61 rfl rfl ht
theorem wX5_trait_64 : E_ d mX5_trait 64 ls st h = E_ d mX5_trait 66 ls (.int (nI 34) :: st) h := e_bipush dX5_trait_64 kbipush_34 rfl
theorem wX5_trait_66 (ht : oT h a = 40) (hi : xix x (oN h a) = true) : E_ d mX5_trait 66 ls (.int x :: .ref a :: st) h = E_ d mX5_trait 67 ls (.int (oI h a x.toNatClampNeg) :: st) h := e_iald dX5_trait_66 rfl ht hi
theorem wX5_trait_67 : E_ d mX5_trait 67 ls st h = E_ d mX5_trait 68 ls (.int (nI 1) :: st) h := e_iconst dX5_trait_67 kiconst_1 rfl
theorem wX5_trait_68 : E_ d mX5_trait 68 [s0, .val (.int x), s2, s3] st h = E_ d mX5_trait 69 [s0, .val (.int x), s2, s3] (.int x :: st) h := e_go dX5_trait_68 rfl rfl
theorem wX5_trait_69 : E_ d mX5_trait 69 ls (.int y :: .int x :: st) h = E_ d mX5_trait 70 ls (.int (x <<< (y &&& 31)) :: st) h := e_go dX5_trait_69 rfl rfl
theorem wX5_trait_70 : E_ d mX5_trait 70 ls st h = E_ d mX5_trait 71 ls (.int ((-1)) :: st) h := e_iconst dX5_trait_70 kiconst_m1 rfl
theorem wX5_trait_71 : E_ d mX5_trait 71 ls (.int y :: .int x :: st) h = E_ d mX5_trait 72 ls (.int (x ^^^ y) :: st) h := e_go dX5_trait_71 rfl rfl
theorem wX5_trait_72 : E_ d mX5_trait 72 ls (.int y :: .int x :: st) h = E_ d mX5_trait 73 ls (.int (x &&& y) :: st) h := e_go dX5_trait_72 rfl rfl
theorem wX5_trait_73 (ht : oT h a = 40) (hi : xix x (oN h a) = true) : E_ d mX5_trait 73 ls (.int y :: .int x :: .ref a :: st) h = E_ d mX5_trait 74 ls st (pI h a (va_up (oI h a) x.toNatClampNeg y)) := e_iast dX5_trait_73 rfl ht hi
theorem wX5_trait_74 : E_ d mX5_trait 74 [s0, s1, s2, .val (.int x)] st h = E_ d mX5_trait 75 [s0, s1, s2, .val (.int x)] (.int x :: st) h := e_go dX5_trait_74 rfl rfl
theorem wX5_trait_75 : E_ d mX5_trait 75 ls [.int x] h = some (some (.int x), h) := e_rt dX5_trait_75 rfl rfl
/-! FootOutModel.set -/
theorem wX5_set_0 : E_ d mX5_set 0 [.val (.ref a), s1, s2, s3] st h = E_ d mX5_set 1 [.val (.ref a), s1, s2, s3] (.ref a :: st) h := e_go dX5_set_0 rfl rfl
theorem wX5_set_1 : E_ d mX5_set 1 ls st h = E_ d mX5_set 2 ls (.int (nI 0) :: st) h := e_iconst dX5_set_1 kiconst_0 rfl
theorem wX5_set_2 (ht : oT h a = 7) : E_ d mX5_set 2 ls (.int x :: .ref a :: st) h = E_ d mX5_set 5 ls st (pI h a (va_up (oI h a) 0 x)) := e_putI dX5_set_2 rfl rfl ht
theorem wX5_set_5 : E_ d mX5_set 5 [s0, .val (.int x), s2, s3] st h = E_ d mX5_set 6 [s0, .val (.int x), s2, s3] (.int x :: st) h := e_go dX5_set_5 rfl rfl
theorem wX5_set_6 : E_ d mX5_set 6 ls (.int x :: st) h = E_ d mX5_set 7 ls (.long x.toInt64 :: st) h := e_go dX5_set_6 rfl rfl
theorem wX5_set_7 : E_ d mX5_set 7 ls st h = E_ d mX5_set 8 ls (.long 0 :: st) h := e_go dX5_set_7 rfl rfl
theorem wX5_set_8 : E_ d mX5_set 8 ls st h = E_ d mX5_set 11 ls (.long (3) :: st) h := e_go dX5_set_8 rfl rfl
theorem wX5_set_11 : E_ (d + 1) mX5_set 11 ls [.long u3, .long u2, .long u1] h = (C_ d mX5_within [.long u1, .long u2, .long u3] h).bind fun r => E_ (d + 1) mX5_set 14 ls (xpu r.1 []) r.2 := e_call dX5_set_11 rfl rfl
theorem wX5_set_14 : E_ d mX5_set 14 ls (.int x :: st) h = if x = 0 then E_ d mX5_set 17 ls st h else E_ d mX5_set 24 ls st h := e_zne dX5_set_14 rfl rfl
theorem wX5_set_17 : E_ d mX5_set 17 [.val (.ref a), s1, s2, s3] st h = E_ d mX5_set 18 [.val (.ref a), s1, s2, s3] (.ref a :: st) h := e_go dX5_set_17 rfl rfl
theorem wX5_set_18 : E_ d mX5_set 18 ls st h = E_ d mX5_set 20 ls (.int ((-2)) :: st) h := e_bipush dX5_set_18 kbipush_m2 rfl
theorem wX5_set_20 (ht : oT h a = 7) : E_ (d + 1) mX5_set 20 ls [.int x1, .ref a] h = (C_ d mX5_no [.ref a, .int x1] h).bind fun r => E_ (d + 1) mX5_set 23 ls (xpu r.1 []) r.2 := e_vir dX5_set_20 rfl rfl rfl rfl rfl rfl (Nat.le_of_ble_eq_true rfl) (Nat.le_of_ble_eq_true rfl) ht
theorem wX5_set_23 : E_ d mX5_set 23 ls [.int x] h = some (some (.int x), h) := e_rt dX5_set_23 rfl rfl
theorem wX5_set_24 : E_ d mX5_set 24 [s0, s1, .val (.int x), s3] st h = E_ d mX5_set 25 [s0, s1, .val (.int x), s3] (.int x :: st) h := e_go dX5_set_24 rfl rfl
theorem wX5_set_25 : E_ d mX5_set 25 ls (.int x :: st) h = E_ d mX5_set 26 ls (.long x.toInt64 :: st) h := e_go dX5_set_25 rfl rfl
theorem wX5_set_26 : E_ d mX5_set 26 [s0, .val (.int x), s2, s3] st h = E_ d mX5_set 27 [s0, .val (.int x), s2, s3] (.int x :: st) h := e_go dX5_set_26 rfl rfl
theorem wX5_set_27 : E_ d mX5_set 27 ls st h = E_ d mX5_set 28 ls (.int (nI 3) :: st) h := e_iconst dX5_set_27 kiconst_3 rfl
theorem wX5_set_28 : E_ d mX5_set 28 ls (.int y :: .int x :: st) h = if x = y then E_ d mX5_set 31 ls st h else E_ d mX5_set 35 ls st h := e_ine dX5_set_28 rfl rfl
theorem wX5_set_31 : E_ d mX5_set 31 ls st h = E_ d mX5_set 32 ls (.long 1 :: st) h := e_go dX5_set_31 rfl rfl
theorem wX5_set_32 : E_ d mX5_set 32 ls st h = E_ d mX5_set 36 ls st h := e_gt dX5_set_32 rfl
theorem wX5_set_35 : E_ d mX5_set 35 ls st h = E_ d mX5_set 36 ls (.long 0 :: st) h := e_go dX5_set_35 rfl rfl
theorem wX5_set_36 : E_ d mX5_set 36 [s0, .val (.int x), s2, s3] st h = E_ d mX5_set 37 [s0, .val (.int x), s2, s3] (.int x :: st) h := e_go dX5_set_36 rfl rfl
theorem wX5_set_37 : E_ d mX5_set 37 ls (.int x :: st) h = if x = 0 then E_ d mX5_set 40 ls st h else E_ d mX5_set 46 ls st h := e_zne dX5_set_37 rfl rfl
theorem wX5_set_40 : E_ d mX5_set 40 ls st h = E_ d mX5_set 43 ls (.long (30) :: st) h := e_go dX5_set_40 rfl rfl
theorem wX5_set_43 : E_ d mX5_set 43 ls st h = E_ d mX5_set 71 ls st h := e_gt dX5_set_43 rfl
theorem wX5_set_46 : E_ d mX5_set 46 [s0, .val (.int x), s2, s3] st h = E_ d mX5_set 47 [s0, .val (.int x), s2, s3] (.int x :: st) h := e_go dX5_set_46 rfl rfl
theorem wX5_set_47 : E_ d mX5_set 47 ls st h = E_ d mX5_set 48 ls (.int (nI 1) :: st) h := e_iconst dX5_set_47 kiconst_1 rfl
theorem wX5_set_48 : E_ d mX5_set 48 ls (.int y :: .int x :: st) h = if x = y then E_ d mX5_set 51 ls st h else E_ d mX5_set 57 ls st h := e_ine dX5_set_48 rfl rfl
theorem wX5_set_51 : E_ d mX5_set 51 ls st h = E_ d mX5_set 54 ls (.long (20) :: st) h := e_go dX5_set_51 rfl rfl
theorem wX5_set_54 : E_ d mX5_set 54 ls st h = E_ d mX5_set 71 ls st h := e_gt dX5_set_54 rfl
theorem wX5_set_57 : E_ d mX5_set 57 [s0, .val (.int x), s2, s3] st h = E_ d mX5_set 58 [s0, .val (.int x), s2, s3] (.int x :: st) h := e_go dX5_set_57 rfl rfl
theorem wX5_set_58 : E_ d mX5_set 58 ls st h = E_ d mX5_set 59 ls (.int (nI 2) :: st) h := e_iconst dX5_set_58 kiconst_2 rfl
theorem wX5_set_59 : E_ d mX5_set 59 ls (.int y :: .int x :: st) h = if x = y then E_ d mX5_set 62 ls st h else E_ d mX5_set 68 ls st h := e_ine dX5_set_59 rfl rfl
theorem wX5_set_62 : E_ d mX5_set 62 ls st h = E_ d mX5_set 65 ls (.long (60) :: st) h := e_go dX5_set_62 rfl rfl
theorem wX5_set_65 : E_ d mX5_set 65 ls st h = E_ d mX5_set 71 ls st h := e_gt dX5_set_65 rfl
theorem wX5_set_68 : E_ d mX5_set 68 ls st h = E_ d mX5_set 71 ls (.long (200) :: st) h := e_go dX5_set_68 rfl rfl
theorem wX5_set_71 : E_ (d + 1) mX5_set 71 ls [.long u3, .long u2, .long u1] h = (C_ d mX5_within [.long u1, .long u2, .long u3] h).bind fun r => E_ (d + 1) mX5_set 74 ls (xpu r.1 []) r.2 := e_call dX5_set_71 rfl rfl
theorem wX5_set_74 : E_ d mX5_set 74 ls (.int x :: st) h = if x = 0 then E_ d mX5_set 77 ls st h else E_ d mX5_set 84 ls st h := e_zne dX5_set_74 rfl rfl
theorem wX5_set_77 : E_ d mX5_set 77 [.val (.ref a), s1, s2, s3] st h = E_ d mX5_set 78 [.val (.ref a), s1, s2, s3] (.ref a :: st) h := e_go dX5_set_77 rfl rfl
theorem wX5_set_78 : E_ d mX5_set 78 ls st h = E_ d mX5_set 80 ls (.int ((-3)) :: st) h := e_bipush dX5_set_78 kbipush_m3 rfl
theorem wX5_set_80 (ht : oT h a = 7) : E_ (d + 1) mX5_set 80 ls [.int x1, .ref a] h = (C_ d mX5_no [.ref a, .int x1] h).bind fun r => E_ (d + 1) mX5_set 83 ls (xpu r.1 []) r.2 := e_vir dX5_set_80 rfl rfl rfl rfl rfl rfl (Nat.le_of_ble_eq_true rfl) (Nat.le_of_ble_eq_true rfl) ht
theorem wX5_set_83 : E_ d mX5_set 83 ls [.int x] h = some (some (.int x), h) := e_rt dX5_set_83 rfl rfl
theorem wX5_set_84 : E_ d mX5_set 84 [.val (.ref a), s1, s2, s3] st h = E_ d mX5_set 85 [.val (.ref a), s1, s2, s3] (.ref a :: st) h := e_go dX5_set_84 rfl rfl
theorem wX5_set_85 (ht : oT h a = 7) : E_ d mX5_set 85 ls (.ref a :: st) h = E_ d mX5_set 88 ls (va_rf (oR h a 2) :: st) h := e_getR0 dX5_set_85 rfl rfl ht
theorem wX5_set_88 : E_ d mX5_set 88 ls st h = E_ d mX5_set 90 ls (.int (nI 35) :: st) h := e_bipush dX5_set_88 kbipush_35 rfl
theorem wX5_set_90 : E_ d mX5_set 90 [s0, .val (.int x), s2, s3] st h = E_ d mX5_set 91 [s0, .val (.int x), s2, s3] (.int x :: st) h := e_go dX5_set_90 rfl rfl
theorem wX5_set_91 : E_ d mX5_set 91 ls (.int y :: .int x :: st) h = E_ d mX5_set 92 ls (.int (x + y) :: st) h := e_go dX5_set_91 rfl rfl
theorem wX5_set_92 (ht : oT h a = 40) (hi : xix x (oN h a) = true) : E_ d mX5_set 92 ls (.int x :: .ref a :: st) h = E_ d mX5_set 93 ls (.int (oI h a x.toNatClampNeg) :: st) h := e_iald dX5_set_92 rfl ht hi
theorem wX5_set_93 : E_ d mX5_set 93 [s0, s1, s2, s3] (.int x :: st) h = E_ d mX5_set 94 [s0, s1, xk s2, .val (.int x)] st h := e_go dX5_set_93 rfl rfl
theorem wX5_set_94 : E_ d mX5_set 94 [.val (.ref a), s1, s2, s3] st h = E_ d mX5_set 95 [.val (.ref a), s1, s2, s3] (.ref a :: st) h := e_go dX5_set_94 rfl rfl
theorem wX5_set_95 (ht : oT h a = 7) : E_ d mX5_set 95 ls (.ref a :: st) h = E_ d mX5_set 98 ls (va_rf (oR h a 2) :: st) h := e_getR0 dX5_set_95 rfl rfl ht
theorem wX5_set_98 : E_ d mX5_set 98 ls st h = E_ d mX5_set 100 ls (.int (nI 35) :: st) h := e_bipush dX5_set_98 kbipush_35 rfl
theorem wX5_set_100 : E_ d mX5_set 100 [s0, .val (.int x), s2, s3] st h = E_ d mX5_set 101 [s0, .val (.int x), s2, s3] (.int x :: st) h := e_go dX5_set_100 rfl rfl
theorem wX5_set_101 : E_ d mX5_set 101 ls (.int y :: .int x :: st) h = E_ d mX5_set 102 ls (.int (x + y) :: st) h := e_go dX5_set_101 rfl rfl
theorem wX5_set_102 : E_ d mX5_set 102 [s0, s1, .val (.int x), s3] st h = E_ d mX5_set 103 [s0, s1, .val (.int x), s3] (.int x :: st) h := e_go dX5_set_102 rfl rfl
theorem wX5_set_103 (ht : oT h a = 40) (hi : xix x (oN h a) = true) : E_ d mX5_set 103 ls (.int y :: .int x :: .ref a :: st) h = E_ d mX5_set 104 ls st (pI h a (va_up (oI h a) x.toNatClampNeg y)) := e_iast dX5_set_103 rfl ht hi
theorem wX5_set_104 : E_ d mX5_set 104 [s0, s1, s2, .val (.int x)] st h = E_ d mX5_set 105 [s0, s1, s2, .val (.int x)] (.int x :: st) h := e_go dX5_set_104 rfl rfl
theorem wX5_set_105 : E_ d mX5_set 105 ls [.int x] h = some (some (.int x), h) := e_rt dX5_set_105 rfl rfl
/-! FootOutModel.chance -/
theorem wX5_chance_0 : E_ d mX5_chance 0 [.val (.ref a), s1] st h = E_ d mX5_chance 1 [.val (.ref a), s1] (.ref a :: st) h := e_go dX5_chance_0 rfl rfl
theorem wX5_chance_1 : E_ d mX5_chance 1 ls st h = E_ d mX5_chance 2 ls (.int (nI 0) :: st) h := e_iconst dX5_chance_1 kiconst_0 rfl
theorem wX5_chance_2 (ht : oT h a = 7) : E_ d mX5_chance 2 ls (.int x :: .ref a :: st) h = E_ d mX5_chance 5 ls st (pI h a (va_up (oI h a) 0 x)) := e_putI dX5_chance_2 rfl rfl ht
theorem wX5_chance_5 : E_ d mX5_chance 5 [.val (.ref a), s1] st h = E_ d mX5_chance 6 [.val (.ref a), s1] (.ref a :: st) h := e_go dX5_chance_5 rfl rfl
theorem wX5_chance_6 : E_ d mX5_chance 6 [s0, .val (.int x)] st h = E_ d mX5_chance 7 [s0, .val (.int x)] (.int x :: st) h := e_go dX5_chance_6 rfl rfl
theorem wX5_chance_7 (ht : oT h a = 7) : E_ (d + 1) mX5_chance 7 ls [.int x1, .ref a] h = (C_ d mX5_isCar [.ref a, .int x1] h).bind fun r => E_ (d + 1) mX5_chance 10 ls (xpu r.1 []) r.2 := e_vir dX5_chance_7 rfl rfl rfl rfl rfl rfl (Nat.le_of_ble_eq_true rfl) (Nat.le_of_ble_eq_true rfl) ht
theorem wX5_chance_10 : E_ d mX5_chance 10 ls (.int x :: st) h = if x = 0 then E_ d mX5_chance 13 ls st h else E_ d mX5_chance 20 ls st h := e_zne dX5_chance_10 rfl rfl
theorem wX5_chance_13 : E_ d mX5_chance 13 [.val (.ref a), s1] st h = E_ d mX5_chance 14 [.val (.ref a), s1] (.ref a :: st) h := e_go dX5_chance_13 rfl rfl
theorem wX5_chance_14 : E_ d mX5_chance 14 ls st h = E_ d mX5_chance 16 ls (.int ((-2)) :: st) h := e_bipush dX5_chance_14 kbipush_m2 rfl
theorem wX5_chance_16 (ht : oT h a = 7) : E_ (d + 1) mX5_chance 16 ls [.int x1, .ref a] h = (C_ d mX5_no [.ref a, .int x1] h).bind fun r => E_ (d + 1) mX5_chance 19 ls (xpu r.1 []) r.2 := e_vir dX5_chance_16 rfl rfl rfl rfl rfl rfl (Nat.le_of_ble_eq_true rfl) (Nat.le_of_ble_eq_true rfl) ht
theorem wX5_chance_19 : E_ d mX5_chance 19 ls [.int x] h = some (some (.int x), h) := e_rt dX5_chance_19 rfl rfl
theorem wX5_chance_20 : E_ d mX5_chance 20 [.val (.ref a), s1] st h = E_ d mX5_chance 21 [.val (.ref a), s1] (.ref a :: st) h := e_go dX5_chance_20 rfl rfl
theorem wX5_chance_21 : E_ d mX5_chance 21 ls st h = E_ d mX5_chance 22 ls (.int (nI 0) :: st) h := e_iconst dX5_chance_21 kiconst_0 rfl
theorem wX5_chance_22 (ht : oT h a = 7) : E_ (d + 1) mX5_chance 22 ls [.int x1, .ref a] h = (C_ d mX5_begins [.ref a, .int x1] h).bind fun r => E_ (d + 1) mX5_chance 25 ls (xpu r.1 []) r.2 := e_vir dX5_chance_22 rfl rfl rfl rfl rfl rfl (Nat.le_of_ble_eq_true rfl) (Nat.le_of_ble_eq_true rfl) ht
theorem wX5_chance_25 : E_ d mX5_chance 25 [.val (.ref a), s1] st h = E_ d mX5_chance 26 [.val (.ref a), s1] (.ref a :: st) h := e_go dX5_chance_25 rfl rfl
theorem wX5_chance_26 : E_ d mX5_chance 26 [s0, .val (.int x)] st h = E_ d mX5_chance 27 [s0, .val (.int x)] (.int x :: st) h := e_go dX5_chance_26 rfl rfl
theorem wX5_chance_27 (ht : oT h a = 7) : E_ (d + 1) mX5_chance 27 ls [.int x1, .ref a] h = (C_ d mX5_stopsBy [.ref a, .int x1] h).bind fun r => E_ (d + 1) mX5_chance 30 ls (xpu r.1 []) r.2 := e_vir dX5_chance_27 rfl rfl rfl rfl rfl rfl (Nat.le_of_ble_eq_true rfl) (Nat.le_of_ble_eq_true rfl) ht
theorem wX5_chance_30 : E_ d mX5_chance 30 ls [.int x] h = some (some (.int x), h) := e_rt dX5_chance_30 rfl rfl
/-! FootOutModel.begins -/
theorem wX5_begins_0 : E_ d mX5_begins 0 ls st h = E_ d mX5_begins 1 ls (.int (nI 0) :: st) h := e_iconst dX5_begins_0 kiconst_0 rfl
theorem wX5_begins_1 : E_ d mX5_begins 1 [s0, s1, s2] (.int x :: st) h = E_ d mX5_begins 2 [s0, xk s1, .val (.int x)] st h := e_go dX5_begins_1 rfl rfl
theorem wX5_begins_2 : E_ d mX5_begins 2 [s0, s1, .val (.int x)] st h = E_ d mX5_begins 3 [s0, s1, .val (.int x)] (.int x :: st) h := e_go dX5_begins_2 rfl rfl
theorem wX5_begins_3 : E_ d mX5_begins 3 ls st h = E_ d mX5_begins 5 ls (.int (nI 42) :: st) h := e_bipush dX5_begins_3 kbipush_42 rfl
theorem wX5_begins_5 : E_ d mX5_begins 5 ls (.int y :: .int x :: st) h = if x < y then E_ d mX5_begins 8 ls st h else E_ d mX5_begins 21 ls st h := e_ige dX5_begins_5 rfl rfl
theorem wX5_begins_8 : E_ d mX5_begins 8 [.val (.ref a), s1, s2] st h = E_ d mX5_begins 9 [.val (.ref a), s1, s2] (.ref a :: st) h := e_go dX5_begins_8 rfl rfl
theorem wX5_begins_9 (ht : oT h a = 7) : E_ d mX5_begins 9 ls (.ref a :: st) h = E_ d mX5_begins 12 ls (va_rf (oR h a 18) :: st) h := e_getR0 dX5_begins_9 rfl rfl ht
theorem wX5_begins_12 : E_ d mX5_begins 12 [s0, s1, .val (.int x)] st h = E_ d mX5_begins 13 [s0, s1, .val (.int x)] (.int x :: st) h := e_go dX5_begins_12 rfl rfl
theorem wX5_begins_13 : E_ d mX5_begins 13 ls st h = E_ d mX5_begins 14 ls (.int (nI 0) :: st) h := e_iconst dX5_begins_13 kiconst_0 rfl
theorem wX5_begins_14 (ht : oT h a = 40) (hi : xix x (oN h a) = true) : E_ d mX5_begins 14 ls (.int y :: .int x :: .ref a :: st) h = E_ d mX5_begins 15 ls st (pI h a (va_up (oI h a) x.toNatClampNeg y)) := e_iast dX5_begins_14 rfl ht hi
theorem wX5_begins_15 : E_ d mX5_begins 15 [s0, s1, .val (.int x)] st h = E_ d mX5_begins 18 [s0, xk s1, .val (.int (x + nI 1))] st h := by rw [← kiinc_1]; exact e_go dX5_begins_15 rfl rfl
theorem wX5_begins_18 : E_ d mX5_begins 18 ls st h = E_ d mX5_begins 2 ls st h := e_gt dX5_begins_18 rfl
theorem wX5_begins_21 : E_ d mX5_begins 21 ls st h = E_ d mX5_begins 22 ls (.int (nI 0) :: st) h := e_iconst dX5_begins_21 kiconst_0 rfl
theorem wX5_begins_22 : E_ d mX5_begins 22 [s0, s1, s2] (.int x :: st) h = E_ d mX5_begins 23 [s0, xk s1, .val (.int x)] st h := e_go dX5_begins_22 rfl rfl
theorem wX5_begins_23 : E_ d mX5_begins 23 [s0, s1, .val (.int x)] st h = E_ d mX5_begins 24 [s0, s1, .val (.int x)] (.int x :: st) h := e_go dX5_begins_23 rfl rfl
theorem wX5_begins_24 : E_ d mX5_begins 24 [.val (.ref a), s1, s2] st h = E_ d mX5_begins 25 [.val (.ref a), s1, s2] (.ref a :: st) h := e_go dX5_begins_24 rfl rfl
theorem wX5_begins_25 (ht : oT h a = 7) : E_ d mX5_begins 25 ls (.ref a :: st) h = E_ d mX5_begins 28 ls (va_rf (oR h a 2) :: st) h := e_getR0 dX5_begins_25 rfl rfl ht
theorem wX5_begins_28 : E_ d mX5_begins 28 ls st h = E_ d mX5_begins 29 ls (.int (nI 1) :: st) h := e_iconst dX5_begins_28 kiconst_1 rfl
theorem wX5_begins_29 (ht : oT h a = 40) (hi : xix x (oN h a) = true) : E_ d mX5_begins 29 ls (.int x :: .ref a :: st) h = E_ d mX5_begins 30 ls (.int (oI h a x.toNatClampNeg) :: st) h := e_iald dX5_begins_29 rfl ht hi
theorem wX5_begins_30 : E_ d mX5_begins 30 ls (.int y :: .int x :: st) h = if x < y then E_ d mX5_begins 33 ls st h else E_ d mX5_begins 112 ls st h := e_ige dX5_begins_30 rfl rfl
theorem wX5_begins_33 : E_ d mX5_begins 33 [.val (.ref a), s1, s2] st h = E_ d mX5_begins 34 [.val (.ref a), s1, s2] (.ref a :: st) h := e_go dX5_begins_33 rfl rfl
theorem wX5_begins_34 (ht : oT h a = 7) : E_ d mX5_begins 34 ls (.ref a :: st) h = E_ d mX5_begins 37 ls (va_rf (oR h a 18) :: st) h := e_getR0 dX5_begins_34 rfl rfl ht
theorem wX5_begins_37 : E_ d mX5_begins 37 ls st h = E_ d mX5_begins 38 ls (.int (nI 0) :: st) h := e_iconst dX5_begins_37 kiconst_0 rfl
theorem wX5_begins_38 : E_ d mX5_begins 38 [s0, s1, .val (.int x)] st h = E_ d mX5_begins 39 [s0, s1, .val (.int x)] (.int x :: st) h := e_go dX5_begins_38 rfl rfl
theorem wX5_begins_39 : E_ d mX5_begins 39 ls (.int y :: .int x :: st) h = E_ d mX5_begins 40 ls (.int (x + y) :: st) h := e_go dX5_begins_39 rfl rfl
theorem wX5_begins_40 : E_ d mX5_begins 40 [s0, s1, .val (.int x)] st h = E_ d mX5_begins 41 [s0, s1, .val (.int x)] (.int x :: st) h := e_go dX5_begins_40 rfl rfl
theorem wX5_begins_41 : E_ d mX5_begins 41 [.val (.ref a), s1, s2] st h = E_ d mX5_begins 42 [.val (.ref a), s1, s2] (.ref a :: st) h := e_go dX5_begins_41 rfl rfl
theorem wX5_begins_42 (ht : oT h a = 7) : E_ d mX5_begins 42 ls (.ref a :: st) h = E_ d mX5_begins 45 ls (.int (oI h a 22) :: st) h := e_getI dX5_begins_42 rfl rfl ht
theorem wX5_begins_45 : E_ d mX5_begins 45 ls (.int y :: .int x :: st) h = if x = y then E_ d mX5_begins 48 ls st h else E_ d mX5_begins 52 ls st h := e_ine dX5_begins_45 rfl rfl
theorem wX5_begins_48 : E_ d mX5_begins 48 ls st h = E_ d mX5_begins 49 ls (.int (nI 0) :: st) h := e_iconst dX5_begins_48 kiconst_0 rfl
theorem wX5_begins_49 : E_ d mX5_begins 49 ls st h = E_ d mX5_begins 61 ls st h := e_gt dX5_begins_49 rfl
theorem wX5_begins_52 : E_ d mX5_begins 52 [.val (.ref a), s1, s2] st h = E_ d mX5_begins 53 [.val (.ref a), s1, s2] (.ref a :: st) h := e_go dX5_begins_52 rfl rfl
theorem wX5_begins_53 (ht : oT h a = 7) : E_ d mX5_begins 53 ls (.ref a :: st) h = E_ d mX5_begins 56 ls (va_rf (oR h a 2) :: st) h := e_getR0 dX5_begins_53 rfl rfl ht
theorem wX5_begins_56 : E_ d mX5_begins 56 ls st h = E_ d mX5_begins 58 ls (.int (nI 10) :: st) h := e_bipush dX5_begins_56 kbipush_10 rfl
theorem wX5_begins_58 : E_ d mX5_begins 58 [s0, s1, .val (.int x)] st h = E_ d mX5_begins 59 [s0, s1, .val (.int x)] (.int x :: st) h := e_go dX5_begins_58 rfl rfl
theorem wX5_begins_59 : E_ d mX5_begins 59 ls (.int y :: .int x :: st) h = E_ d mX5_begins 60 ls (.int (x + y) :: st) h := e_go dX5_begins_59 rfl rfl
theorem wX5_begins_60 (ht : oT h a = 40) (hi : xix x (oN h a) = true) : E_ d mX5_begins 60 ls (.int x :: .ref a :: st) h = E_ d mX5_begins 61 ls (.int (oI h a x.toNatClampNeg) :: st) h := e_iald dX5_begins_60 rfl ht hi
theorem wX5_begins_61 (ht : oT h a = 40) (hi : xix x (oN h a) = true) : E_ d mX5_begins 61 ls (.int y :: .int x :: .ref a :: st) h = E_ d mX5_begins 62 ls st (pI h a (va_up (oI h a) x.toNatClampNeg y)) := e_iast dX5_begins_61 rfl ht hi
theorem wX5_begins_62 : E_ d mX5_begins 62 [.val (.ref a), s1, s2] st h = E_ d mX5_begins 63 [.val (.ref a), s1, s2] (.ref a :: st) h := e_go dX5_begins_62 rfl rfl
theorem wX5_begins_63 (ht : oT h a = 7) : E_ d mX5_begins 63 ls (.ref a :: st) h = E_ d mX5_begins 66 ls (va_rf (oR h a 18) :: st) h := e_getR0 dX5_begins_63 rfl rfl ht
theorem wX5_begins_66 : E_ d mX5_begins 66 ls st h = E_ d mX5_begins 68 ls (.int (nI 8) :: st) h := e_bipush dX5_begins_66 kbipush_8 rfl
theorem wX5_begins_68 : E_ d mX5_begins 68 [s0, s1, .val (.int x)] st h = E_ d mX5_begins 69 [s0, s1, .val (.int x)] (.int x :: st) h := e_go dX5_begins_68 rfl rfl
theorem wX5_begins_69 : E_ d mX5_begins 69 ls (.int y :: .int x :: st) h = E_ d mX5_begins 70 ls (.int (x + y) :: st) h := e_go dX5_begins_69 rfl rfl
theorem wX5_begins_70 : E_ d mX5_begins 70 [.val (.ref a), s1, s2] st h = E_ d mX5_begins 71 [.val (.ref a), s1, s2] (.ref a :: st) h := e_go dX5_begins_70 rfl rfl
theorem wX5_begins_71 : E_ d mX5_begins 71 ls st h = E_ d mX5_begins 73 ls (.int (nI 6) :: st) h := e_bipush dX5_begins_71 kbipush_6 rfl
theorem wX5_begins_73 (ht : oT h a = 7) : E_ (d + 1) mX5_begins 73 ls [.int x1, .ref a, .int x2, .ref r1] h = (C_ d mX5_hasTrait [.ref a, .int x1] h).bind fun r => E_ (d + 1) mX5_begins 76 ls (xpu r.1 [.int x2, .ref r1]) r.2 := e_vir dX5_begins_73 rfl rfl rfl rfl rfl rfl (Nat.le_of_ble_eq_true rfl) (Nat.le_of_ble_eq_true rfl) ht
theorem wX5_begins_76 : E_ d mX5_begins 76 ls (.int x :: st) h = if x = 0 then E_ d mX5_begins 96 ls st h else E_ d mX5_begins 79 ls st h := e_zeq dX5_begins_76 rfl rfl
theorem wX5_begins_79 : E_ d mX5_begins 79 [.val (.ref a), s1, s2] st h = E_ d mX5_begins 80 [.val (.ref a), s1, s2] (.ref a :: st) h := e_go dX5_begins_79 rfl rfl
theorem wX5_begins_80 (ht : oT h a = 7) : E_ d mX5_begins 80 ls (.ref a :: st) h = E_ d mX5_begins 83 ls (va_rf (oR h a 2) :: st) h := e_getR0 dX5_begins_80 rfl rfl ht
theorem wX5_begins_83 : E_ d mX5_begins 83 ls st h = E_ d mX5_begins 85 ls (.int (nI 18) :: st) h := e_bipush dX5_begins_83 kbipush_18 rfl
theorem wX5_begins_85 : E_ d mX5_begins 85 [s0, s1, .val (.int x)] st h = E_ d mX5_begins 86 [s0, s1, .val (.int x)] (.int x :: st) h := e_go dX5_begins_85 rfl rfl
theorem wX5_begins_86 : E_ d mX5_begins 86 ls (.int y :: .int x :: st) h = E_ d mX5_begins 87 ls (.int (x + y) :: st) h := e_go dX5_begins_86 rfl rfl
theorem wX5_begins_87 (ht : oT h a = 40) (hi : xix x (oN h a) = true) : E_ d mX5_begins 87 ls (.int x :: .ref a :: st) h = E_ d mX5_begins 88 ls (.int (oI h a x.toNatClampNeg) :: st) h := e_iald dX5_begins_87 rfl ht hi
theorem wX5_begins_88 : E_ d mX5_begins 88 ls st h = E_ d mX5_begins 89 ls (.int (nI 4) :: st) h := e_iconst dX5_begins_88 kiconst_4 rfl
theorem wX5_begins_89 : E_ d mX5_begins 89 ls (.int y :: .int x :: st) h = if y < x then E_ d mX5_begins 92 ls st h else E_ d mX5_begins 96 ls st h := e_ile dX5_begins_89 rfl rfl
theorem wX5_begins_92 : E_ d mX5_begins 92 ls st h = E_ d mX5_begins 93 ls (.int (nI 4) :: st) h := e_iconst dX5_begins_92 kiconst_4 rfl
theorem wX5_begins_93 : E_ d mX5_begins 93 ls st h = E_ d mX5_begins 105 ls st h := e_gt dX5_begins_93 rfl
theorem wX5_begins_96 : E_ d mX5_begins 96 [.val (.ref a), s1, s2] st h = E_ d mX5_begins 97 [.val (.ref a), s1, s2] (.ref a :: st) h := e_go dX5_begins_96 rfl rfl
theorem wX5_begins_97 (ht : oT h a = 7) : E_ d mX5_begins 97 ls (.ref a :: st) h = E_ d mX5_begins 100 ls (va_rf (oR h a 2) :: st) h := e_getR0 dX5_begins_97 rfl rfl ht
theorem wX5_begins_100 : E_ d mX5_begins 100 ls st h = E_ d mX5_begins 102 ls (.int (nI 18) :: st) h := e_bipush dX5_begins_100 kbipush_18 rfl
theorem wX5_begins_102 : E_ d mX5_begins 102 [s0, s1, .val (.int x)] st h = E_ d mX5_begins 103 [s0, s1, .val (.int x)] (.int x :: st) h := e_go dX5_begins_102 rfl rfl
theorem wX5_begins_103 : E_ d mX5_begins 103 ls (.int y :: .int x :: st) h = E_ d mX5_begins 104 ls (.int (x + y) :: st) h := e_go dX5_begins_103 rfl rfl
theorem wX5_begins_104 (ht : oT h a = 40) (hi : xix x (oN h a) = true) : E_ d mX5_begins 104 ls (.int x :: .ref a :: st) h = E_ d mX5_begins 105 ls (.int (oI h a x.toNatClampNeg) :: st) h := e_iald dX5_begins_104 rfl ht hi
theorem wX5_begins_105 (ht : oT h a = 40) (hi : xix x (oN h a) = true) : E_ d mX5_begins 105 ls (.int y :: .int x :: .ref a :: st) h = E_ d mX5_begins 106 ls st (pI h a (va_up (oI h a) x.toNatClampNeg y)) := e_iast dX5_begins_105 rfl ht hi
theorem wX5_begins_106 : E_ d mX5_begins 106 [s0, s1, .val (.int x)] st h = E_ d mX5_begins 109 [s0, xk s1, .val (.int (x + nI 1))] st h := by rw [← kiinc_1]; exact e_go dX5_begins_106 rfl rfl
theorem wX5_begins_109 : E_ d mX5_begins 109 ls st h = E_ d mX5_begins 23 ls st h := e_gt dX5_begins_109 rfl
theorem wX5_begins_112 : E_ d mX5_begins 112 [.val (.ref a), s1, s2] st h = E_ d mX5_begins 113 [.val (.ref a), s1, s2] (.ref a :: st) h := e_go dX5_begins_112 rfl rfl
theorem wX5_begins_113 (ht : oT h a = 7) : E_ d mX5_begins 113 ls (.ref a :: st) h = E_ d mX5_begins 116 ls (va_rf (oR h a 18) :: st) h := e_getR0 dX5_begins_113 rfl rfl ht
theorem wX5_begins_116 : E_ d mX5_begins 116 ls st h = E_ d mX5_begins 118 ls (.int (nI 39) :: st) h := e_bipush dX5_begins_116 kbipush_39 rfl
theorem wX5_begins_118 : E_ d mX5_begins 118 ls st h = E_ d mX5_begins 119 ls (.int ((-1)) :: st) h := e_iconst dX5_begins_118 kiconst_m1 rfl
theorem wX5_begins_119 (ht : oT h a = 40) (hi : xix x (oN h a) = true) : E_ d mX5_begins 119 ls (.int y :: .int x :: .ref a :: st) h = E_ d mX5_begins 120 ls st (pI h a (va_up (oI h a) x.toNatClampNeg y)) := e_iast dX5_begins_119 rfl ht hi
theorem wX5_begins_120 : E_ d mX5_begins 120 [.val (.ref a), s1, s2] st h = E_ d mX5_begins 121 [.val (.ref a), s1, s2] (.ref a :: st) h := e_go dX5_begins_120 rfl rfl
theorem wX5_begins_121 (ht : oT h a = 7) : E_ d mX5_begins 121 ls (.ref a :: st) h = E_ d mX5_begins 124 ls (va_rf (oR h a 18) :: st) h := e_getR0 dX5_begins_121 rfl rfl ht
theorem wX5_begins_124 : E_ d mX5_begins 124 ls st h = E_ d mX5_begins 126 ls (.int (nI 40) :: st) h := e_bipush dX5_begins_124 kbipush_40 rfl
theorem wX5_begins_126 : E_ d mX5_begins 126 [s0, .val (.int x), s2] st h = E_ d mX5_begins 127 [s0, .val (.int x), s2] (.int x :: st) h := e_go dX5_begins_126 rfl rfl
theorem wX5_begins_127 (ht : oT h a = 40) (hi : xix x (oN h a) = true) : E_ d mX5_begins 127 ls (.int y :: .int x :: .ref a :: st) h = E_ d mX5_begins 128 ls st (pI h a (va_up (oI h a) x.toNatClampNeg y)) := e_iast dX5_begins_127 rfl ht hi
theorem wX5_begins_128 : E_ d mX5_begins 128 ls [] h = some (none, h) := e_rt dX5_begins_128 rfl rfl
/-! FootOutModel.hasTrait -/
theorem wX5_hasTrait_0 : E_ d mX5_hasTrait 0 [.val (.ref a), s1] st h = E_ d mX5_hasTrait 1 [.val (.ref a), s1] (.ref a :: st) h := e_go dX5_hasTrait_0 rfl rfl
theorem wX5_hasTrait_1 (ht : oT h a = 7) : E_ d mX5_hasTrait 1 ls (.ref a :: st) h = E_ d mX5_hasTrait 4 ls (va_rf (oR h a 2) :: st) h := e_getR0 dX5_hasTrait_1 rfl rfl ht
theorem wX5_hasTrait_4 : E_ d mX5_hasTrait 4 ls st h = E_ d mX5_hasTrait 6 ls (.int (nI 34) :: st) h := e_bipush dX5_hasTrait_4 kbipush_34 rfl
theorem wX5_hasTrait_6 (ht : oT h a = 40) (hi : xix x (oN h a) = true) : E_ d mX5_hasTrait 6 ls (.int x :: .ref a :: st) h = E_ d mX5_hasTrait 7 ls (.int (oI h a x.toNatClampNeg) :: st) h := e_iald dX5_hasTrait_6 rfl ht hi
theorem wX5_hasTrait_7 : E_ d mX5_hasTrait 7 [s0, .val (.int x)] st h = E_ d mX5_hasTrait 8 [s0, .val (.int x)] (.int x :: st) h := e_go dX5_hasTrait_7 rfl rfl
theorem wX5_hasTrait_8 : E_ d mX5_hasTrait 8 ls (.int y :: .int x :: st) h = E_ d mX5_hasTrait 9 ls (.int (x >>> (y &&& 31)) :: st) h := e_go dX5_hasTrait_8 rfl rfl
theorem wX5_hasTrait_9 : E_ d mX5_hasTrait 9 ls st h = E_ d mX5_hasTrait 10 ls (.int (nI 1) :: st) h := e_iconst dX5_hasTrait_9 kiconst_1 rfl
theorem wX5_hasTrait_10 : E_ d mX5_hasTrait 10 ls (.int y :: .int x :: st) h = E_ d mX5_hasTrait 11 ls (.int (x &&& y) :: st) h := e_go dX5_hasTrait_10 rfl rfl
theorem wX5_hasTrait_11 : E_ d mX5_hasTrait 11 ls st h = E_ d mX5_hasTrait 12 ls (.int (nI 1) :: st) h := e_iconst dX5_hasTrait_11 kiconst_1 rfl
theorem wX5_hasTrait_12 : E_ d mX5_hasTrait 12 ls (.int y :: .int x :: st) h = if x = y then E_ d mX5_hasTrait 15 ls st h else E_ d mX5_hasTrait 19 ls st h := e_ine dX5_hasTrait_12 rfl rfl
theorem wX5_hasTrait_15 : E_ d mX5_hasTrait 15 ls st h = E_ d mX5_hasTrait 16 ls (.int (nI 1) :: st) h := e_iconst dX5_hasTrait_15 kiconst_1 rfl
theorem wX5_hasTrait_16 : E_ d mX5_hasTrait 16 ls st h = E_ d mX5_hasTrait 20 ls st h := e_gt dX5_hasTrait_16 rfl
theorem wX5_hasTrait_19 : E_ d mX5_hasTrait 19 ls st h = E_ d mX5_hasTrait 20 ls (.int (nI 0) :: st) h := e_iconst dX5_hasTrait_19 kiconst_0 rfl
theorem wX5_hasTrait_20 (hx : x = 0 ∨ x = 1) : E_ d mX5_hasTrait 20 ls [.int x] h = some (some (.int x), h) := e_rtZ dX5_hasTrait_20 rfl hx
/-! FootOutModel.stopsBy -/
theorem wX5_stopsBy_0 : E_ d mX5_stopsBy 0 ls st h = E_ d mX5_stopsBy 1 ls (.int (nI 0) :: st) h := e_iconst dX5_stopsBy_0 kiconst_0 rfl
theorem wX5_stopsBy_1 : E_ d mX5_stopsBy 1 [s0, s1, s2] (.int x :: st) h = E_ d mX5_stopsBy 2 [s0, xk s1, .val (.int x)] st h := e_go dX5_stopsBy_1 rfl rfl
theorem wX5_stopsBy_2 : E_ d mX5_stopsBy 2 [s0, s1, .val (.int x)] st h = E_ d mX5_stopsBy 3 [s0, s1, .val (.int x)] (.int x :: st) h := e_go dX5_stopsBy_2 rfl rfl
theorem wX5_stopsBy_3 : E_ d mX5_stopsBy 3 [.val (.ref a), s1, s2] st h = E_ d mX5_stopsBy 4 [.val (.ref a), s1, s2] (.ref a :: st) h := e_go dX5_stopsBy_3 rfl rfl
theorem wX5_stopsBy_4 (ht : oT h a = 7) : E_ d mX5_stopsBy 4 ls (.ref a :: st) h = E_ d mX5_stopsBy 7 ls (va_rf (oR h a 2) :: st) h := e_getR0 dX5_stopsBy_4 rfl rfl ht
theorem wX5_stopsBy_7 : E_ d mX5_stopsBy 7 ls st h = E_ d mX5_stopsBy 9 ls (.int (nI 40) :: st) h := e_bipush dX5_stopsBy_7 kbipush_40 rfl
theorem wX5_stopsBy_9 (ht : oT h a = 40) (hi : xix x (oN h a) = true) : E_ d mX5_stopsBy 9 ls (.int x :: .ref a :: st) h = E_ d mX5_stopsBy 10 ls (.int (oI h a x.toNatClampNeg) :: st) h := e_iald dX5_stopsBy_9 rfl ht hi
theorem wX5_stopsBy_10 : E_ d mX5_stopsBy 10 ls (.int y :: .int x :: st) h = if x < y then E_ d mX5_stopsBy 13 ls st h else E_ d mX5_stopsBy 46 ls st h := e_ige dX5_stopsBy_10 rfl rfl
theorem wX5_stopsBy_13 : E_ d mX5_stopsBy 13 [s0, s1, .val (.int x)] st h = E_ d mX5_stopsBy 14 [s0, s1, .val (.int x)] (.int x :: st) h := e_go dX5_stopsBy_13 rfl rfl
theorem wX5_stopsBy_14 : E_ d mX5_stopsBy 14 [.val (.ref a), s1, s2] st h = E_ d mX5_stopsBy 15 [.val (.ref a), s1, s2] (.ref a :: st) h := e_go dX5_stopsBy_14 rfl rfl
theorem wX5_stopsBy_15 (ht : oT h a = 7) : E_ d mX5_stopsBy 15 ls (.ref a :: st) h = E_ d mX5_stopsBy 18 ls (.int (oI h a 21) :: st) h := e_getI dX5_stopsBy_15 rfl rfl ht
theorem wX5_stopsBy_18 : E_ d mX5_stopsBy 18 ls (.int y :: .int x :: st) h = if x = y then E_ d mX5_stopsBy 40 ls st h else E_ d mX5_stopsBy 21 ls st h := e_ieq dX5_stopsBy_18 rfl rfl
theorem wX5_stopsBy_21 : E_ d mX5_stopsBy 21 [.val (.ref a), s1, s2] st h = E_ d mX5_stopsBy 22 [.val (.ref a), s1, s2] (.ref a :: st) h := e_go dX5_stopsBy_21 rfl rfl
theorem wX5_stopsBy_22 : E_ d mX5_stopsBy 22 [s0, s1, .val (.int x)] st h = E_ d mX5_stopsBy 23 [s0, s1, .val (.int x)] (.int x :: st) h := e_go dX5_stopsBy_22 rfl rfl
theorem wX5_stopsBy_23 : E_ d mX5_stopsBy 23 [s0, .val (.int x), s2] st h = E_ d mX5_stopsBy 24 [s0, .val (.int x), s2] (.int x :: st) h := e_go dX5_stopsBy_23 rfl rfl
theorem wX5_stopsBy_24 (ht : oT h a = 7) : E_ (d + 1) mX5_stopsBy 24 ls [.int x2, .int x1, .ref a] h = (C_ d mX5_isSo [.ref a, .int x1, .int x2] h).bind fun r => E_ (d + 1) mX5_stopsBy 27 ls (xpu r.1 []) r.2 := e_vir dX5_stopsBy_24 rfl rfl rfl rfl rfl rfl (Nat.le_of_ble_eq_true rfl) (Nat.le_of_ble_eq_true rfl) ht
theorem wX5_stopsBy_27 : E_ d mX5_stopsBy 27 ls (.int x :: st) h = if x = 0 then E_ d mX5_stopsBy 40 ls st h else E_ d mX5_stopsBy 30 ls st h := e_zeq dX5_stopsBy_27 rfl rfl
theorem wX5_stopsBy_30 : E_ d mX5_stopsBy 30 [.val (.ref a), s1, s2] st h = E_ d mX5_stopsBy 31 [.val (.ref a), s1, s2] (.ref a :: st) h := e_go dX5_stopsBy_30 rfl rfl
theorem wX5_stopsBy_31 (ht : oT h a = 7) : E_ d mX5_stopsBy 31 ls (.ref a :: st) h = E_ d mX5_stopsBy 34 ls (va_rf (oR h a 2) :: st) h := e_getR0 dX5_stopsBy_31 rfl rfl ht
theorem wX5_stopsBy_34 : E_ d mX5_stopsBy 34 ls st h = E_ d mX5_stopsBy 36 ls (.int (nI 41) :: st) h := e_bipush dX5_stopsBy_34 kbipush_41 rfl
theorem wX5_stopsBy_36 : E_ d mX5_stopsBy 36 [s0, s1, .val (.int x)] st h = E_ d mX5_stopsBy 37 [s0, s1, .val (.int x)] (.int x :: st) h := e_go dX5_stopsBy_36 rfl rfl
theorem wX5_stopsBy_37 : E_ d mX5_stopsBy 37 ls (.int y :: .int x :: st) h = E_ d mX5_stopsBy 38 ls (.int (x + y) :: st) h := e_go dX5_stopsBy_37 rfl rfl
theorem wX5_stopsBy_38 (ht : oT h a = 40) (hi : xix x (oN h a) = true) : E_ d mX5_stopsBy 38 ls (.int x :: .ref a :: st) h = E_ d mX5_stopsBy 39 ls (.int (oI h a x.toNatClampNeg) :: st) h := e_iald dX5_stopsBy_38 rfl ht hi
theorem wX5_stopsBy_39 : E_ d mX5_stopsBy 39 ls [.int x] h = some (some (.int x), h) := e_rt dX5_stopsBy_39 rfl rfl
theorem wX5_stopsBy_40 : E_ d mX5_stopsBy 40 [s0, s1, .val (.int x)] st h = E_ d mX5_stopsBy 43 [s0, xk s1, .val (.int (x + nI 1))] st h := by rw [← kiinc_1]; exact e_go dX5_stopsBy_40 rfl rfl
theorem wX5_stopsBy_43 : E_ d mX5_stopsBy 43 ls st h = E_ d mX5_stopsBy 2 ls st h := e_gt dX5_stopsBy_43 rfl
theorem wX5_stopsBy_46 : E_ d mX5_stopsBy 46 ls st h = E_ d mX5_stopsBy 47 ls (.int (nI 0) :: st) h := e_iconst dX5_stopsBy_46 kiconst_0 rfl
theorem wX5_stopsBy_47 : E_ d mX5_stopsBy 47 ls [.int x] h = some (some (.int x), h) := e_rt dX5_stopsBy_47 rfl rfl
/-! FootOutModel.isSo -/
theorem wX5_isSo_0 : E_ d mX5_isSo 0 ls st h = E_ d mX5_isSo 1 ls (.int (nI 0) :: st) h := e_iconst dX5_isSo_0 kiconst_0 rfl
theorem wX5_isSo_1 : E_ d mX5_isSo 1 [s0, s1, s2, s3, s4, s5] (.int x :: st) h = E_ d mX5_isSo 2 [s0, s1, xk s2, .val (.int x), s4, s5] st h := e_go dX5_isSo_1 rfl rfl
theorem wX5_isSo_2 : E_ d mX5_isSo 2 [.val (.ref a), s1, s2, s3, s4, s5] st h = E_ d mX5_isSo 3 [.val (.ref a), s1, s2, s3, s4, s5] (.ref a :: st) h := e_go dX5_isSo_2 rfl rfl
theorem wX5_isSo_3 (ht : oT h a = 7) : E_ d mX5_isSo 3 ls (.ref a :: st) h = E_ d mX5_isSo 6 ls (va_rf (oR h a 2) :: st) h := e_getR0 dX5_isSo_3 rfl rfl ht
theorem wX5_isSo_6 : E_ d mX5_isSo 6 ls st h = E_ d mX5_isSo 8 ls (.int (nI 53) :: st) h := e_bipush dX5_isSo_6 kbipush_53 rfl
theorem wX5_isSo_8 : E_ d mX5_isSo 8 [s0, .val (.int x), s2, s3, s4, s5] st h = E_ d mX5_isSo 9 [s0, .val (.int x), s2, s3, s4, s5] (.int x :: st) h := e_go dX5_isSo_8 rfl rfl
theorem wX5_isSo_9 : E_ d mX5_isSo 9 ls (.int y :: .int x :: st) h = E_ d mX5_isSo 10 ls (.int (x + y) :: st) h := e_go dX5_isSo_9 rfl rfl
theorem wX5_isSo_10 (ht : oT h a = 40) (hi : xix x (oN h a) = true) : E_ d mX5_isSo 10 ls (.int x :: .ref a :: st) h = E_ d mX5_isSo 11 ls (.int (oI h a x.toNatClampNeg) :: st) h := e_iald dX5_isSo_10 rfl ht hi
theorem wX5_isSo_11 : E_ d mX5_isSo 11 [s0, s1, s2, s3, s4, s5] (.int x :: st) h = E_ d mX5_isSo 13 [s0, s1, s2, xk s3, .val (.int x), s5] st h := e_go dX5_isSo_11 rfl rfl
theorem wX5_isSo_13 : E_ d mX5_isSo 13 [s0, s1, s2, s3, .val (.int x), s5] st h = E_ d mX5_isSo 15 [s0, s1, s2, s3, .val (.int x), s5] (.int x :: st) h := e_go dX5_isSo_13 rfl rfl
theorem wX5_isSo_15 : E_ d mX5_isSo 15 [.val (.ref a), s1, s2, s3, s4, s5] st h = E_ d mX5_isSo 16 [.val (.ref a), s1, s2, s3, s4, s5] (.ref a :: st) h := e_go dX5_isSo_15 rfl rfl
theorem wX5_isSo_16 (ht : oT h a = 7) : E_ d mX5_isSo 16 ls (.ref a :: st) h = E_ d mX5_isSo 19 ls (va_rf (oR h a 2) :: st) h := e_getR0 dX5_isSo_16 rfl rfl ht
theorem wX5_isSo_19 : E_ d mX5_isSo 19 ls st h = E_ d mX5_isSo 21 ls (.int (nI 65) :: st) h := e_bipush dX5_isSo_19 kbipush_65 rfl
theorem wX5_isSo_21 : E_ d mX5_isSo 21 [s0, .val (.int x), s2, s3, s4, s5] st h = E_ d mX5_isSo 22 [s0, .val (.int x), s2, s3, s4, s5] (.int x :: st) h := e_go dX5_isSo_21 rfl rfl
theorem wX5_isSo_22 : E_ d mX5_isSo 22 ls (.int y :: .int x :: st) h = E_ d mX5_isSo 23 ls (.int (x + y) :: st) h := e_go dX5_isSo_22 rfl rfl
theorem wX5_isSo_23 (ht : oT h a = 40) (hi : xix x (oN h a) = true) : E_ d mX5_isSo 23 ls (.int x :: .ref a :: st) h = E_ d mX5_isSo 24 ls (.int (oI h a x.toNatClampNeg) :: st) h := e_iald dX5_isSo_23 rfl ht hi
theorem wX5_isSo_24 : E_ d mX5_isSo 24 ls (.int y :: .int x :: st) h = if x < y then E_ d mX5_isSo 27 ls st h else E_ d mX5_isSo 199 ls st h := e_ige dX5_isSo_24 rfl rfl
theorem wX5_isSo_27 : E_ d mX5_isSo 27 [.val (.ref a), s1, s2, s3, s4, s5] st h = E_ d mX5_isSo 28 [.val (.ref a), s1, s2, s3, s4, s5] (.ref a :: st) h := e_go dX5_isSo_27 rfl rfl
theorem wX5_isSo_28 (ht : oT h a = 7) : E_ d mX5_isSo 28 ls (.ref a :: st) h = E_ d mX5_isSo 31 ls (va_rf (oR h a 2) :: st) h := e_getR0 dX5_isSo_28 rfl rfl ht
theorem wX5_isSo_31 : E_ d mX5_isSo 31 ls st h = E_ d mX5_isSo 33 ls (.int (nI 77) :: st) h := e_bipush dX5_isSo_31 kbipush_77 rfl
theorem wX5_isSo_33 : E_ d mX5_isSo 33 ls st h = E_ d mX5_isSo 34 ls (.int (nI 2) :: st) h := e_iconst dX5_isSo_33 kiconst_2 rfl
theorem wX5_isSo_34 : E_ d mX5_isSo 34 [s0, s1, s2, s3, .val (.int x), s5] st h = E_ d mX5_isSo 36 [s0, s1, s2, s3, .val (.int x), s5] (.int x :: st) h := e_go dX5_isSo_34 rfl rfl
theorem wX5_isSo_36 : E_ d mX5_isSo 36 ls (.int y :: .int x :: st) h = E_ d mX5_isSo 37 ls (.int (x * y) :: st) h := e_go dX5_isSo_36 rfl rfl
theorem wX5_isSo_37 : E_ d mX5_isSo 37 ls (.int y :: .int x :: st) h = E_ d mX5_isSo 38 ls (.int (x + y) :: st) h := e_go dX5_isSo_37 rfl rfl
theorem wX5_isSo_38 (ht : oT h a = 40) (hi : xix x (oN h a) = true) : E_ d mX5_isSo 38 ls (.int x :: .ref a :: st) h = E_ d mX5_isSo 39 ls (.int (oI h a x.toNatClampNeg) :: st) h := e_iald dX5_isSo_38 rfl ht hi
theorem wX5_isSo_39 : E_ d mX5_isSo 39 [s0, s1, s2, s3, s4, s5] (.int x :: st) h = E_ d mX5_isSo 41 [s0, s1, s2, s3, xk s4, .val (.int x)] st h := e_go dX5_isSo_39 rfl rfl
theorem wX5_isSo_41 : E_ d mX5_isSo 41 [s0, s1, s2, s3, s4, .val (.int x)] st h = E_ d mX5_isSo 43 [s0, s1, s2, s3, s4, .val (.int x)] (.int x :: st) h := e_go dX5_isSo_41 rfl rfl
theorem wX5_isSo_43 : E_ d mX5_isSo 43 ls st h = E_ d mX5_isSo 45 ls (.int (nI 21) :: st) h := e_bipush dX5_isSo_43 kbipush_21 rfl
theorem wX5_isSo_45 : E_ d mX5_isSo 45 ls (.int y :: .int x :: st) h = if x = y then E_ d mX5_isSo 48 ls st h else E_ d mX5_isSo 75 ls st h := e_ine dX5_isSo_45 rfl rfl
theorem wX5_isSo_48 : E_ d mX5_isSo 48 [.val (.ref a), s1, s2, s3, s4, s5] st h = E_ d mX5_isSo 49 [.val (.ref a), s1, s2, s3, s4, s5] (.ref a :: st) h := e_go dX5_isSo_48 rfl rfl
theorem wX5_isSo_49 (ht : oT h a = 7) : E_ d mX5_isSo 49 ls (.ref a :: st) h = E_ d mX5_isSo 52 ls (va_rf (oR h a 20) :: st) h := e_getR0 dX5_isSo_49 rfl rfl ht
theorem wX5_isSo_52 : E_ d mX5_isSo 52 [s0, s1, s2, .val (.int x), s4, s5] st h = E_ d mX5_isSo 53 [s0, s1, s2, .val (.int x), s4, s5] (.int x :: st) h := e_go dX5_isSo_52 rfl rfl
theorem wX5_isSo_53 : E_ d mX5_isSo 53 ls st h = E_ d mX5_isSo 54 ls (.int (nI 1) :: st) h := e_iconst dX5_isSo_53 kiconst_1 rfl
theorem wX5_isSo_54 : E_ d mX5_isSo 54 ls (.int y :: .int x :: st) h = E_ d mX5_isSo 55 ls (.int (x - y) :: st) h := e_go dX5_isSo_54 rfl rfl
theorem wX5_isSo_55 : E_ d mX5_isSo 55 [.val (.ref a), s1, s2, s3, s4, s5] st h = E_ d mX5_isSo 56 [.val (.ref a), s1, s2, s3, s4, s5] (.ref a :: st) h := e_go dX5_isSo_55 rfl rfl
theorem wX5_isSo_56 (ht : oT h a = 7) : E_ d mX5_isSo 56 ls (.ref a :: st) h = E_ d mX5_isSo 59 ls (va_rf (oR h a 20) :: st) h := e_getR0 dX5_isSo_56 rfl rfl ht
theorem wX5_isSo_59 : E_ d mX5_isSo 59 [s0, s1, s2, .val (.int x), s4, s5] st h = E_ d mX5_isSo 60 [s0, s1, s2, .val (.int x), s4, s5] (.int x :: st) h := e_go dX5_isSo_59 rfl rfl
theorem wX5_isSo_60 : E_ d mX5_isSo 60 ls st h = E_ d mX5_isSo 61 ls (.int (nI 1) :: st) h := e_iconst dX5_isSo_60 kiconst_1 rfl
theorem wX5_isSo_61 : E_ d mX5_isSo 61 ls (.int y :: .int x :: st) h = E_ d mX5_isSo 62 ls (.int (x - y) :: st) h := e_go dX5_isSo_61 rfl rfl
theorem wX5_isSo_62 (ht : oT h a = 41 ∨ oT h a = 42) (hi : xix x (oN h a) = true) : E_ d mX5_isSo 62 ls (.int x :: .ref a :: st) h = E_ d mX5_isSo 63 ls (.int (oI h a x.toNatClampNeg) :: st) h := e_bald dX5_isSo_62 rfl ht hi
theorem wX5_isSo_63 : E_ d mX5_isSo 63 ls (.int x :: st) h = if x = 0 then E_ d mX5_isSo 66 ls st h else E_ d mX5_isSo 70 ls st h := e_zne dX5_isSo_63 rfl rfl
theorem wX5_isSo_66 : E_ d mX5_isSo 66 ls st h = E_ d mX5_isSo 67 ls (.int (nI 1) :: st) h := e_iconst dX5_isSo_66 kiconst_1 rfl
theorem wX5_isSo_67 : E_ d mX5_isSo 67 ls st h = E_ d mX5_isSo 71 ls st h := e_gt dX5_isSo_67 rfl
theorem wX5_isSo_70 : E_ d mX5_isSo 70 ls st h = E_ d mX5_isSo 71 ls (.int (nI 0) :: st) h := e_iconst dX5_isSo_70 kiconst_0 rfl
theorem wX5_isSo_71 (ht : oT h a = 41) (hi : xix x (oN h a) = true) : E_ d mX5_isSo 71 ls (.int y :: .int x :: .ref a :: st) h = E_ d mX5_isSo 72 ls st (pI h a (va_up (oI h a) x.toNatClampNeg (vp_nar .byte y))) := e_bast dX5_isSo_71 rfl ht hi
theorem wX5_isSo_71z (ht : oT h a = 42) (hi : xix x (oN h a) = true) : E_ d mX5_isSo 71 ls (.int y :: .int x :: .ref a :: st) h = E_ d mX5_isSo 72 ls st (pI h a (va_up (oI h a) x.toNatClampNeg (vp_nar .boolean y))) := e_zast dX5_isSo_71 rfl ht hi
theorem wX5_isSo_72 : E_ d mX5_isSo 72 ls st h = E_ d mX5_isSo 193 ls st h := e_gt dX5_isSo_72 rfl
theorem wX5_isSo_75 : E_ d mX5_isSo 75 [s0, s1, s2, s3, s4, .val (.int x)] st h = E_ d mX5_isSo 77 [s0, s1, s2, s3, s4, .val (.int x)] (.int x :: st) h := e_go dX5_isSo_75 rfl rfl
theorem wX5_isSo_77 : E_ d mX5_isSo 77 ls st h = E_ d mX5_isSo 79 ls (.int (nI 20) :: st) h := e_bipush dX5_isSo_77 kbipush_20 rfl
theorem wX5_isSo_79 : E_ d mX5_isSo 79 ls (.int y :: .int x :: st) h = if x = y then E_ d mX5_isSo 89 ls st h else E_ d mX5_isSo 82 ls st h := e_ieq dX5_isSo_79 rfl rfl
theorem wX5_isSo_82 : E_ d mX5_isSo 82 [s0, s1, s2, s3, s4, .val (.int x)] st h = E_ d mX5_isSo 84 [s0, s1, s2, s3, s4, .val (.int x)] (.int x :: st) h := e_go dX5_isSo_82 rfl rfl
theorem wX5_isSo_84 : E_ d mX5_isSo 84 ls st h = E_ d mX5_isSo 86 ls (.int (nI 19) :: st) h := e_bipush dX5_isSo_84 kbipush_19 rfl
theorem wX5_isSo_86 : E_ d mX5_isSo 86 ls (.int y :: .int x :: st) h = if x = y then E_ d mX5_isSo 89 ls st h else E_ d mX5_isSo 163 ls st h := e_ine dX5_isSo_86 rfl rfl
theorem wX5_isSo_89 : E_ d mX5_isSo 89 [s0, s1, s2, .val (.int x), s4, s5] st h = E_ d mX5_isSo 92 [s0, s1, xk s2, .val (.int (x + (-1))), s4, s5] st h := by rw [← kiinc_m1]; exact e_go dX5_isSo_89 rfl rfl
theorem wX5_isSo_92 : E_ d mX5_isSo 92 [.val (.ref a), s1, s2, s3, s4, s5] st h = E_ d mX5_isSo 93 [.val (.ref a), s1, s2, s3, s4, s5] (.ref a :: st) h := e_go dX5_isSo_92 rfl rfl
theorem wX5_isSo_93 (ht : oT h a = 7) : E_ d mX5_isSo 93 ls (.ref a :: st) h = E_ d mX5_isSo 96 ls (va_rf (oR h a 20) :: st) h := e_getR0 dX5_isSo_93 rfl rfl ht
theorem wX5_isSo_96 : E_ d mX5_isSo 96 [s0, s1, s2, .val (.int x), s4, s5] st h = E_ d mX5_isSo 97 [s0, s1, s2, .val (.int x), s4, s5] (.int x :: st) h := e_go dX5_isSo_96 rfl rfl
theorem wX5_isSo_97 : E_ d mX5_isSo 97 ls st h = E_ d mX5_isSo 98 ls (.int (nI 1) :: st) h := e_iconst dX5_isSo_97 kiconst_1 rfl
theorem wX5_isSo_98 : E_ d mX5_isSo 98 ls (.int y :: .int x :: st) h = E_ d mX5_isSo 99 ls (.int (x - y) :: st) h := e_go dX5_isSo_98 rfl rfl
theorem wX5_isSo_99 : E_ d mX5_isSo 99 [s0, s1, s2, s3, s4, .val (.int x)] st h = E_ d mX5_isSo 101 [s0, s1, s2, s3, s4, .val (.int x)] (.int x :: st) h := e_go dX5_isSo_99 rfl rfl
theorem wX5_isSo_101 : E_ d mX5_isSo 101 ls st h = E_ d mX5_isSo 103 ls (.int (nI 20) :: st) h := e_bipush dX5_isSo_101 kbipush_20 rfl
theorem wX5_isSo_103 : E_ d mX5_isSo 103 ls (.int y :: .int x :: st) h = if x = y then E_ d mX5_isSo 106 ls st h else E_ d mX5_isSo 134 ls st h := e_ine dX5_isSo_103 rfl rfl
theorem wX5_isSo_106 : E_ d mX5_isSo 106 [.val (.ref a), s1, s2, s3, s4, s5] st h = E_ d mX5_isSo 107 [.val (.ref a), s1, s2, s3, s4, s5] (.ref a :: st) h := e_go dX5_isSo_106 rfl rfl
theorem wX5_isSo_107 (ht : oT h a = 7) : E_ d mX5_isSo 107 ls (.ref a :: st) h = E_ d mX5_isSo 110 ls (va_rf (oR h a 20) :: st) h := e_getR0 dX5_isSo_107 rfl rfl ht
theorem wX5_isSo_110 : E_ d mX5_isSo 110 [s0, s1, s2, .val (.int x), s4, s5] st h = E_ d mX5_isSo 111 [s0, s1, s2, .val (.int x), s4, s5] (.int x :: st) h := e_go dX5_isSo_110 rfl rfl
theorem wX5_isSo_111 : E_ d mX5_isSo 111 ls st h = E_ d mX5_isSo 112 ls (.int (nI 1) :: st) h := e_iconst dX5_isSo_111 kiconst_1 rfl
theorem wX5_isSo_112 : E_ d mX5_isSo 112 ls (.int y :: .int x :: st) h = E_ d mX5_isSo 113 ls (.int (x - y) :: st) h := e_go dX5_isSo_112 rfl rfl
theorem wX5_isSo_113 (ht : oT h a = 41 ∨ oT h a = 42) (hi : xix x (oN h a) = true) : E_ d mX5_isSo 113 ls (.int x :: .ref a :: st) h = E_ d mX5_isSo 114 ls (.int (oI h a x.toNatClampNeg) :: st) h := e_bald dX5_isSo_113 rfl ht hi
theorem wX5_isSo_114 : E_ d mX5_isSo 114 ls (.int x :: st) h = if x = 0 then E_ d mX5_isSo 130 ls st h else E_ d mX5_isSo 117 ls st h := e_zeq dX5_isSo_114 rfl rfl
theorem wX5_isSo_117 : E_ d mX5_isSo 117 [.val (.ref a), s1, s2, s3, s4, s5] st h = E_ d mX5_isSo 118 [.val (.ref a), s1, s2, s3, s4, s5] (.ref a :: st) h := e_go dX5_isSo_117 rfl rfl
theorem wX5_isSo_118 (ht : oT h a = 7) : E_ d mX5_isSo 118 ls (.ref a :: st) h = E_ d mX5_isSo 121 ls (va_rf (oR h a 20) :: st) h := e_getR0 dX5_isSo_118 rfl rfl ht
theorem wX5_isSo_121 : E_ d mX5_isSo 121 [s0, s1, s2, .val (.int x), s4, s5] st h = E_ d mX5_isSo 122 [s0, s1, s2, .val (.int x), s4, s5] (.int x :: st) h := e_go dX5_isSo_121 rfl rfl
theorem wX5_isSo_122 (ht : oT h a = 41 ∨ oT h a = 42) (hi : xix x (oN h a) = true) : E_ d mX5_isSo 122 ls (.int x :: .ref a :: st) h = E_ d mX5_isSo 123 ls (.int (oI h a x.toNatClampNeg) :: st) h := e_bald dX5_isSo_122 rfl ht hi
theorem wX5_isSo_123 : E_ d mX5_isSo 123 ls (.int x :: st) h = if x = 0 then E_ d mX5_isSo 130 ls st h else E_ d mX5_isSo 126 ls st h := e_zeq dX5_isSo_123 rfl rfl
theorem wX5_isSo_126 : E_ d mX5_isSo 126 ls st h = E_ d mX5_isSo 127 ls (.int (nI 1) :: st) h := e_iconst dX5_isSo_126 kiconst_1 rfl
theorem wX5_isSo_127 : E_ d mX5_isSo 127 ls st h = E_ d mX5_isSo 159 ls st h := e_gt dX5_isSo_127 rfl
theorem wX5_isSo_130 : E_ d mX5_isSo 130 ls st h = E_ d mX5_isSo 131 ls (.int (nI 0) :: st) h := e_iconst dX5_isSo_130 kiconst_0 rfl
theorem wX5_isSo_131 : E_ d mX5_isSo 131 ls st h = E_ d mX5_isSo 159 ls st h := e_gt dX5_isSo_131 rfl
theorem wX5_isSo_134 : E_ d mX5_isSo 134 [.val (.ref a), s1, s2, s3, s4, s5] st h = E_ d mX5_isSo 135 [.val (.ref a), s1, s2, s3, s4, s5] (.ref a :: st) h := e_go dX5_isSo_134 rfl rfl
theorem wX5_isSo_135 (ht : oT h a = 7) : E_ d mX5_isSo 135 ls (.ref a :: st) h = E_ d mX5_isSo 138 ls (va_rf (oR h a 20) :: st) h := e_getR0 dX5_isSo_135 rfl rfl ht
theorem wX5_isSo_138 : E_ d mX5_isSo 138 [s0, s1, s2, .val (.int x), s4, s5] st h = E_ d mX5_isSo 139 [s0, s1, s2, .val (.int x), s4, s5] (.int x :: st) h := e_go dX5_isSo_138 rfl rfl
theorem wX5_isSo_139 : E_ d mX5_isSo 139 ls st h = E_ d mX5_isSo 140 ls (.int (nI 1) :: st) h := e_iconst dX5_isSo_139 kiconst_1 rfl
theorem wX5_isSo_140 : E_ d mX5_isSo 140 ls (.int y :: .int x :: st) h = E_ d mX5_isSo 141 ls (.int (x - y) :: st) h := e_go dX5_isSo_140 rfl rfl
theorem wX5_isSo_141 (ht : oT h a = 41 ∨ oT h a = 42) (hi : xix x (oN h a) = true) : E_ d mX5_isSo 141 ls (.int x :: .ref a :: st) h = E_ d mX5_isSo 142 ls (.int (oI h a x.toNatClampNeg) :: st) h := e_bald dX5_isSo_141 rfl ht hi
theorem wX5_isSo_142 : E_ d mX5_isSo 142 ls (.int x :: st) h = if x = 0 then E_ d mX5_isSo 145 ls st h else E_ d mX5_isSo 154 ls st h := e_zne dX5_isSo_142 rfl rfl
theorem wX5_isSo_145 : E_ d mX5_isSo 145 [.val (.ref a), s1, s2, s3, s4, s5] st h = E_ d mX5_isSo 146 [.val (.ref a), s1, s2, s3, s4, s5] (.ref a :: st) h := e_go dX5_isSo_145 rfl rfl
theorem wX5_isSo_146 (ht : oT h a = 7) : E_ d mX5_isSo 146 ls (.ref a :: st) h = E_ d mX5_isSo 149 ls (va_rf (oR h a 20) :: st) h := e_getR0 dX5_isSo_146 rfl rfl ht
theorem wX5_isSo_149 : E_ d mX5_isSo 149 [s0, s1, s2, .val (.int x), s4, s5] st h = E_ d mX5_isSo 150 [s0, s1, s2, .val (.int x), s4, s5] (.int x :: st) h := e_go dX5_isSo_149 rfl rfl
theorem wX5_isSo_150 (ht : oT h a = 41 ∨ oT h a = 42) (hi : xix x (oN h a) = true) : E_ d mX5_isSo 150 ls (.int x :: .ref a :: st) h = E_ d mX5_isSo 151 ls (.int (oI h a x.toNatClampNeg) :: st) h := e_bald dX5_isSo_150 rfl ht hi
theorem wX5_isSo_151 : E_ d mX5_isSo 151 ls (.int x :: st) h = if x = 0 then E_ d mX5_isSo 158 ls st h else E_ d mX5_isSo 154 ls st h := e_zeq dX5_isSo_151 rfl rfl
theorem wX5_isSo_154 : E_ d mX5_isSo 154 ls st h = E_ d mX5_isSo 155 ls (.int (nI 1) :: st) h := e_iconst dX5_isSo_154 kiconst_1 rfl
theorem wX5_isSo_155 : E_ d mX5_isSo 155 ls st h = E_ d mX5_isSo 159 ls st h := e_gt dX5_isSo_155 rfl
theorem wX5_isSo_158 : E_ d mX5_isSo 158 ls st h = E_ d mX5_isSo 159 ls (.int (nI 0) :: st) h := e_iconst dX5_isSo_158 kiconst_0 rfl
theorem wX5_isSo_159 (ht : oT h a = 41) (hi : xix x (oN h a) = true) : E_ d mX5_isSo 159 ls (.int y :: .int x :: .ref a :: st) h = E_ d mX5_isSo 160 ls st (pI h a (va_up (oI h a) x.toNatClampNeg (vp_nar .byte y))) := e_bast dX5_isSo_159 rfl ht hi
theorem wX5_isSo_159z (ht : oT h a = 42) (hi : xix x (oN h a) = true) : E_ d mX5_isSo 159 ls (.int y :: .int x :: .ref a :: st) h = E_ d mX5_isSo 160 ls st (pI h a (va_up (oI h a) x.toNatClampNeg (vp_nar .boolean y))) := e_zast dX5_isSo_159 rfl ht hi
theorem wX5_isSo_160 : E_ d mX5_isSo 160 ls st h = E_ d mX5_isSo 193 ls st h := e_gt dX5_isSo_160 rfl
theorem wX5_isSo_163 : E_ d mX5_isSo 163 [.val (.ref a), s1, s2, s3, s4, s5] st h = E_ d mX5_isSo 164 [.val (.ref a), s1, s2, s3, s4, s5] (.ref a :: st) h := e_go dX5_isSo_163 rfl rfl
theorem wX5_isSo_164 (ht : oT h a = 7) : E_ d mX5_isSo 164 ls (.ref a :: st) h = E_ d mX5_isSo 167 ls (va_rf (oR h a 20) :: st) h := e_getR0 dX5_isSo_164 rfl rfl ht
theorem wX5_isSo_167 : E_ d mX5_isSo 167 [s0, s1, s2, .val (.int x), s4, s5] st h = E_ d mX5_isSo 168 [s0, s1, s2, .val (.int x), s4, s5] (.int x :: st) h := e_go dX5_isSo_167 rfl rfl
theorem wX5_isSo_168 : E_ d mX5_isSo 168 [.val (.ref a), s1, s2, s3, s4, s5] st h = E_ d mX5_isSo 169 [.val (.ref a), s1, s2, s3, s4, s5] (.ref a :: st) h := e_go dX5_isSo_168 rfl rfl
theorem wX5_isSo_169 : E_ d mX5_isSo 169 [s0, s1, s2, s3, s4, .val (.int x)] st h = E_ d mX5_isSo 171 [s0, s1, s2, s3, s4, .val (.int x)] (.int x :: st) h := e_go dX5_isSo_169 rfl rfl
theorem wX5_isSo_171 : E_ d mX5_isSo 171 [.val (.ref a), s1, s2, s3, s4, s5] st h = E_ d mX5_isSo 172 [.val (.ref a), s1, s2, s3, s4, s5] (.ref a :: st) h := e_go dX5_isSo_171 rfl rfl
theorem wX5_isSo_172 (ht : oT h a = 7) : E_ d mX5_isSo 172 ls (.ref a :: st) h = E_ d mX5_isSo 175 ls (va_rf (oR h a 2) :: st) h := e_getR0 dX5_isSo_172 rfl rfl ht
theorem wX5_isSo_175 : E_ d mX5_isSo 175 ls st h = E_ d mX5_isSo 177 ls (.int (nI 77) :: st) h := e_bipush dX5_isSo_175 kbipush_77 rfl
theorem wX5_isSo_177 : E_ d mX5_isSo 177 ls st h = E_ d mX5_isSo 178 ls (.int (nI 2) :: st) h := e_iconst dX5_isSo_177 kiconst_2 rfl
theorem wX5_isSo_178 : E_ d mX5_isSo 178 [s0, s1, s2, s3, .val (.int x), s5] st h = E_ d mX5_isSo 180 [s0, s1, s2, s3, .val (.int x), s5] (.int x :: st) h := e_go dX5_isSo_178 rfl rfl
theorem wX5_isSo_180 : E_ d mX5_isSo 180 ls (.int y :: .int x :: st) h = E_ d mX5_isSo 181 ls (.int (x * y) :: st) h := e_go dX5_isSo_180 rfl rfl
theorem wX5_isSo_181 : E_ d mX5_isSo 181 ls (.int y :: .int x :: st) h = E_ d mX5_isSo 182 ls (.int (x + y) :: st) h := e_go dX5_isSo_181 rfl rfl
theorem wX5_isSo_182 : E_ d mX5_isSo 182 ls st h = E_ d mX5_isSo 183 ls (.int (nI 1) :: st) h := e_iconst dX5_isSo_182 kiconst_1 rfl
theorem wX5_isSo_183 : E_ d mX5_isSo 183 ls (.int y :: .int x :: st) h = E_ d mX5_isSo 184 ls (.int (x + y) :: st) h := e_go dX5_isSo_183 rfl rfl
theorem wX5_isSo_184 (ht : oT h a = 40) (hi : xix x (oN h a) = true) : E_ d mX5_isSo 184 ls (.int x :: .ref a :: st) h = E_ d mX5_isSo 185 ls (.int (oI h a x.toNatClampNeg) :: st) h := e_iald dX5_isSo_184 rfl ht hi
theorem wX5_isSo_185 : E_ d mX5_isSo 185 [s0, s1, .val (.int x), s3, s4, s5] st h = E_ d mX5_isSo 186 [s0, s1, .val (.int x), s3, s4, s5] (.int x :: st) h := e_go dX5_isSo_185 rfl rfl
theorem wX5_isSo_186 (ht : oT h a = 7) : E_ (d + 1) mX5_isSo 186 ls [.int x3, .int x2, .int x1, .ref a, .int x4, .ref r1] h = (C_ d mX5_fact [.ref a, .int x1, .int x2, .int x3] h).bind fun r => E_ (d + 1) mX5_isSo 189 ls (xpu r.1 [.int x4, .ref r1]) r.2 := e_vir dX5_isSo_186 rfl rfl rfl rfl rfl rfl (Nat.le_of_ble_eq_true rfl) (Nat.le_of_ble_eq_true rfl) ht
theorem wX5_isSo_189 (ht : oT h a = 41) (hi : xix x (oN h a) = true) : E_ d mX5_isSo 189 ls (.int y :: .int x :: .ref a :: st) h = E_ d mX5_isSo 190 ls st (pI h a (va_up (oI h a) x.toNatClampNeg (vp_nar .byte y))) := e_bast dX5_isSo_189 rfl ht hi
theorem wX5_isSo_189z (ht : oT h a = 42) (hi : xix x (oN h a) = true) : E_ d mX5_isSo 189 ls (.int y :: .int x :: .ref a :: st) h = E_ d mX5_isSo 190 ls st (pI h a (va_up (oI h a) x.toNatClampNeg (vp_nar .boolean y))) := e_zast dX5_isSo_189 rfl ht hi
theorem wX5_isSo_190 : E_ d mX5_isSo 190 [s0, s1, s2, .val (.int x), s4, s5] st h = E_ d mX5_isSo 193 [s0, s1, xk s2, .val (.int (x + nI 1)), s4, s5] st h := by rw [← kiinc_1]; exact e_go dX5_isSo_190 rfl rfl
theorem wX5_isSo_193 : E_ d mX5_isSo 193 [s0, s1, s2, s3, .val (.int x), s5] st h = E_ d mX5_isSo 196 [s0, s1, s2, xk s3, .val (.int (x + nI 1)), s5] st h := by rw [← kiinc_1]; exact e_go dX5_isSo_193 rfl rfl
theorem wX5_isSo_196 : E_ d mX5_isSo 196 ls st h = E_ d mX5_isSo 13 ls st h := e_gt dX5_isSo_196 rfl
theorem wX5_isSo_199 : E_ d mX5_isSo 199 [.val (.ref a), s1, s2, s3, s4, s5] st h = E_ d mX5_isSo 200 [.val (.ref a), s1, s2, s3, s4, s5] (.ref a :: st) h := e_go dX5_isSo_199 rfl rfl
theorem wX5_isSo_200 (ht : oT h a = 7) : E_ d mX5_isSo 200 ls (.ref a :: st) h = E_ d mX5_isSo 203 ls (va_rf (oR h a 20) :: st) h := e_getR0 dX5_isSo_200 rfl rfl ht
theorem wX5_isSo_203 : E_ d mX5_isSo 203 ls st h = E_ d mX5_isSo 204 ls (.int (nI 0) :: st) h := e_iconst dX5_isSo_203 kiconst_0 rfl
theorem wX5_isSo_204 (ht : oT h a = 41 ∨ oT h a = 42) (hi : xix x (oN h a) = true) : E_ d mX5_isSo 204 ls (.int x :: .ref a :: st) h = E_ d mX5_isSo 205 ls (.int (oI h a x.toNatClampNeg) :: st) h := e_bald dX5_isSo_204 rfl ht hi
theorem wX5_isSo_205 (hx : x = 0 ∨ x = 1) : E_ d mX5_isSo 205 ls [.int x] h = some (some (.int x), h) := e_rtZ dX5_isSo_205 rfl hx
/-! FootOutModel.fact -/
theorem wX5_fact_0 : E_ d mX5_fact 0 [s0, .val (.int x), s2, s3, s4] st h = E_ d mX5_fact 1 [s0, .val (.int x), s2, s3, s4] (.int x :: st) h := e_go dX5_fact_0 rfl rfl
theorem wX5_fact_1 : E_ d mX5_fact 1 ls (.int x :: st) h = E_ d mX5_fact 2 ls (.long x.toInt64 :: st) h := e_go dX5_fact_1 rfl rfl
theorem wX5_fact_2 : E_ d mX5_fact 2 ls st h = E_ d mX5_fact 5 ls (.long (5) :: st) h := e_go dX5_fact_2 rfl rfl
theorem wX5_fact_5 : E_ d mX5_fact 5 ls st h = E_ d mX5_fact 8 ls (.long (12) :: st) h := e_go dX5_fact_5 rfl rfl
theorem wX5_fact_8 : E_ (d + 1) mX5_fact 8 ls [.long u3, .long u2, .long u1] h = (C_ d mX5_within [.long u1, .long u2, .long u3] h).bind fun r => E_ (d + 1) mX5_fact 11 ls (xpu r.1 []) r.2 := e_call dX5_fact_8 rfl rfl
theorem wX5_fact_11 : E_ d mX5_fact 11 ls (.int x :: st) h = if x = 0 then E_ d mX5_fact 22 ls st h else E_ d mX5_fact 14 ls st h := e_zeq dX5_fact_11 rfl rfl
theorem wX5_fact_14 : E_ d mX5_fact 14 [.val (.ref a), s1, s2, s3, s4] st h = E_ d mX5_fact 15 [.val (.ref a), s1, s2, s3, s4] (.ref a :: st) h := e_go dX5_fact_14 rfl rfl
theorem wX5_fact_15 : E_ d mX5_fact 15 [s0, .val (.int x), s2, s3, s4] st h = E_ d mX5_fact 16 [s0, .val (.int x), s2, s3, s4] (.int x :: st) h := e_go dX5_fact_15 rfl rfl
theorem wX5_fact_16 : E_ d mX5_fact 16 ls st h = E_ d mX5_fact 17 ls (.int (nI 5) :: st) h := e_iconst dX5_fact_16 kiconst_5 rfl
theorem wX5_fact_17 : E_ d mX5_fact 17 ls (.int y :: .int x :: st) h = E_ d mX5_fact 18 ls (.int (x - y) :: st) h := e_go dX5_fact_17 rfl rfl
theorem wX5_fact_18 (ht : oT h a = 7) : E_ (d + 1) mX5_fact 18 ls [.int x1, .ref a] h = (C_ d mX5_hasTrait [.ref a, .int x1] h).bind fun r => E_ (d + 1) mX5_fact 21 ls (xpu r.1 []) r.2 := e_vir dX5_fact_18 rfl rfl rfl rfl rfl rfl (Nat.le_of_ble_eq_true rfl) (Nat.le_of_ble_eq_true rfl) ht
theorem wX5_fact_21 (hx : x = 0 ∨ x = 1) : E_ d mX5_fact 21 ls [.int x] h = some (some (.int x), h) := e_rtZ dX5_fact_21 rfl hx
theorem wX5_fact_22 : E_ d mX5_fact 22 [.val (.ref a), s1, s2, s3, s4] st h = E_ d mX5_fact 23 [.val (.ref a), s1, s2, s3, s4] (.ref a :: st) h := e_go dX5_fact_22 rfl rfl
theorem wX5_fact_23 (ht : oT h a = 7) : E_ d mX5_fact 23 ls (.ref a :: st) h = E_ d mX5_fact 26 ls (va_rf (oR h a 2) :: st) h := e_getR0 dX5_fact_23 rfl rfl ht
theorem wX5_fact_26 : E_ d mX5_fact 26 ls st h = E_ d mX5_fact 27 ls (.int (nI 2) :: st) h := e_iconst dX5_fact_26 kiconst_2 rfl
theorem wX5_fact_27 : E_ d mX5_fact 27 [s0, s1, s2, .val (.int x), s4] st h = E_ d mX5_fact 28 [s0, s1, s2, .val (.int x), s4] (.int x :: st) h := e_go dX5_fact_27 rfl rfl
theorem wX5_fact_28 : E_ d mX5_fact 28 ls (.int y :: .int x :: st) h = E_ d mX5_fact 29 ls (.int (x + y) :: st) h := e_go dX5_fact_28 rfl rfl
theorem wX5_fact_29 (ht : oT h a = 40) (hi : xix x (oN h a) = true) : E_ d mX5_fact 29 ls (.int x :: .ref a :: st) h = E_ d mX5_fact 30 ls (.int (oI h a x.toNatClampNeg) :: st) h := e_iald dX5_fact_29 rfl ht hi
theorem wX5_fact_30 : E_ d mX5_fact 30 [s0, s1, s2, s3, s4] (.int x :: st) h = E_ d mX5_fact 32 [s0, s1, s2, xk s3, .val (.int x)] st h := e_go dX5_fact_30 rfl rfl
theorem wX5_fact_32 : E_ d mX5_fact 32 [s0, .val (.int x), s2, s3, s4] st h = E_ d mX5_fact 33 [s0, .val (.int x), s2, s3, s4] (.int x :: st) h := e_go dX5_fact_32 rfl rfl
theorem wX5_fact_33d (hx : x.toInt < 4 ∨ 27 < x.toInt) : E_ d mX5_fact 33 ls (.int x :: st) h = E_ d mX5_fact 268 ls st h := e_swO dX5_fact_33 rfl hx
theorem wX5_fact_33c4 : E_ d mX5_fact 33 ls (.int (nI 4) :: st) h = E_ d mX5_fact 193 ls st h := e_swI (n := 4) dX5_fact_33 (by decide) (by decide) rfl rfl
theorem wX5_fact_33c5 : E_ d mX5_fact 33 ls (.int (nI 5) :: st) h = E_ d mX5_fact 268 ls st h := e_swI (n := 5) dX5_fact_33 (by decide) (by decide) rfl rfl
theorem wX5_fact_33c6 : E_ d mX5_fact 33 ls (.int (nI 6) :: st) h = E_ d mX5_fact 268 ls st h := e_swI (n := 6) dX5_fact_33 (by decide) (by decide) rfl rfl
theorem wX5_fact_33c7 : E_ d mX5_fact 33 ls (.int (nI 7) :: st) h = E_ d mX5_fact 268 ls st h := e_swI (n := 7) dX5_fact_33 (by decide) (by decide) rfl rfl
theorem wX5_fact_33c8 : E_ d mX5_fact 33 ls (.int (nI 8) :: st) h = E_ d mX5_fact 268 ls st h := e_swI (n := 8) dX5_fact_33 (by decide) (by decide) rfl rfl
theorem wX5_fact_33c9 : E_ d mX5_fact 33 ls (.int (nI 9) :: st) h = E_ d mX5_fact 268 ls st h := e_swI (n := 9) dX5_fact_33 (by decide) (by decide) rfl rfl
theorem wX5_fact_33c10 : E_ d mX5_fact 33 ls (.int (nI 10) :: st) h = E_ d mX5_fact 268 ls st h := e_swI (n := 10) dX5_fact_33 (by decide) (by decide) rfl rfl
theorem wX5_fact_33c11 : E_ d mX5_fact 33 ls (.int (nI 11) :: st) h = E_ d mX5_fact 268 ls st h := e_swI (n := 11) dX5_fact_33 (by decide) (by decide) rfl rfl
theorem wX5_fact_33c12 : E_ d mX5_fact 33 ls (.int (nI 12) :: st) h = E_ d mX5_fact 268 ls st h := e_swI (n := 12) dX5_fact_33 (by decide) (by decide) rfl rfl
theorem wX5_fact_33c13 : E_ d mX5_fact 33 ls (.int (nI 13) :: st) h = E_ d mX5_fact 268 ls st h := e_swI (n := 13) dX5_fact_33 (by decide) (by decide) rfl rfl
theorem wX5_fact_33c14 : E_ d mX5_fact 33 ls (.int (nI 14) :: st) h = E_ d mX5_fact 268 ls st h := e_swI (n := 14) dX5_fact_33 (by decide) (by decide) rfl rfl
theorem wX5_fact_33c15 : E_ d mX5_fact 33 ls (.int (nI 15) :: st) h = E_ d mX5_fact 268 ls st h := e_swI (n := 15) dX5_fact_33 (by decide) (by decide) rfl rfl
theorem wX5_fact_33c16 : E_ d mX5_fact 33 ls (.int (nI 16) :: st) h = E_ d mX5_fact 268 ls st h := e_swI (n := 16) dX5_fact_33 (by decide) (by decide) rfl rfl
theorem wX5_fact_33c17 : E_ d mX5_fact 33 ls (.int (nI 17) :: st) h = E_ d mX5_fact 268 ls st h := e_swI (n := 17) dX5_fact_33 (by decide) (by decide) rfl rfl
theorem wX5_fact_33c18 : E_ d mX5_fact 33 ls (.int (nI 18) :: st) h = E_ d mX5_fact 268 ls st h := e_swI (n := 18) dX5_fact_33 (by decide) (by decide) rfl rfl
theorem wX5_fact_33c19 : E_ d mX5_fact 33 ls (.int (nI 19) :: st) h = E_ d mX5_fact 268 ls st h := e_swI (n := 19) dX5_fact_33 (by decide) (by decide) rfl rfl
theorem wX5_fact_33c20 : E_ d mX5_fact 33 ls (.int (nI 20) :: st) h = E_ d mX5_fact 268 ls st h := e_swI (n := 20) dX5_fact_33 (by decide) (by decide) rfl rfl
theorem wX5_fact_33c21 : E_ d mX5_fact 33 ls (.int (nI 21) :: st) h = E_ d mX5_fact 268 ls st h := e_swI (n := 21) dX5_fact_33 (by decide) (by decide) rfl rfl
theorem wX5_fact_33c22 : E_ d mX5_fact 33 ls (.int (nI 22) :: st) h = E_ d mX5_fact 144 ls st h := e_swI (n := 22) dX5_fact_33 (by decide) (by decide) rfl rfl
theorem wX5_fact_33c23 : E_ d mX5_fact 33 ls (.int (nI 23) :: st) h = E_ d mX5_fact 162 ls st h := e_swI (n := 23) dX5_fact_33 (by decide) (by decide) rfl rfl
theorem wX5_fact_33c24 : E_ d mX5_fact 33 ls (.int (nI 24) :: st) h = E_ d mX5_fact 181 ls st h := e_swI (n := 24) dX5_fact_33 (by decide) (by decide) rfl rfl
theorem wX5_fact_33c25 : E_ d mX5_fact 33 ls (.int (nI 25) :: st) h = E_ d mX5_fact 212 ls st h := e_swI (n := 25) dX5_fact_33 (by decide) (by decide) rfl rfl
theorem wX5_fact_33c26 : E_ d mX5_fact 33 ls (.int (nI 26) :: st) h = E_ d mX5_fact 231 ls st h := e_swI (n := 26) dX5_fact_33 (by decide) (by decide) rfl rfl
theorem wX5_fact_33c27 : E_ d mX5_fact 33 ls (.int (nI 27) :: st) h = E_ d mX5_fact 250 ls st h := e_swI (n := 27) dX5_fact_33 (by decide) (by decide) rfl rfl
theorem wX5_fact_144 : E_ d mX5_fact 144 [.val (.ref a), s1, s2, s3, s4] st h = E_ d mX5_fact 145 [.val (.ref a), s1, s2, s3, s4] (.ref a :: st) h := e_go dX5_fact_144 rfl rfl
theorem wX5_fact_145 (ht : oT h a = 7) : E_ d mX5_fact 145 ls (.ref a :: st) h = E_ d mX5_fact 148 ls (va_rf (oR h a 18) :: st) h := e_getR0 dX5_fact_145 rfl rfl ht
theorem wX5_fact_148 : E_ d mX5_fact 148 ls st h = E_ d mX5_fact 149 ls (.int (nI 0) :: st) h := e_iconst dX5_fact_148 kiconst_0 rfl
theorem wX5_fact_149 : E_ d mX5_fact 149 [s0, s1, s2, .val (.int x), s4] st h = E_ d mX5_fact 150 [s0, s1, s2, .val (.int x), s4] (.int x :: st) h := e_go dX5_fact_149 rfl rfl
theorem wX5_fact_150 : E_ d mX5_fact 150 ls (.int y :: .int x :: st) h = E_ d mX5_fact 151 ls (.int (x + y) :: st) h := e_go dX5_fact_150 rfl rfl
theorem wX5_fact_151 (ht : oT h a = 40) (hi : xix x (oN h a) = true) : E_ d mX5_fact 151 ls (.int x :: .ref a :: st) h = E_ d mX5_fact 152 ls (.int (oI h a x.toNatClampNeg) :: st) h := e_iald dX5_fact_151 rfl ht hi
theorem wX5_fact_152 : E_ d mX5_fact 152 [s0, s1, .val (.int x), s3, s4] st h = E_ d mX5_fact 153 [s0, s1, .val (.int x), s3, s4] (.int x :: st) h := e_go dX5_fact_152 rfl rfl
theorem wX5_fact_153 : E_ d mX5_fact 153 ls (.int y :: .int x :: st) h = if x < y then E_ d mX5_fact 156 ls st h else E_ d mX5_fact 160 ls st h := e_ige dX5_fact_153 rfl rfl
theorem wX5_fact_156 : E_ d mX5_fact 156 ls st h = E_ d mX5_fact 157 ls (.int (nI 1) :: st) h := e_iconst dX5_fact_156 kiconst_1 rfl
theorem wX5_fact_157 : E_ d mX5_fact 157 ls st h = E_ d mX5_fact 161 ls st h := e_gt dX5_fact_157 rfl
theorem wX5_fact_160 : E_ d mX5_fact 160 ls st h = E_ d mX5_fact 161 ls (.int (nI 0) :: st) h := e_iconst dX5_fact_160 kiconst_0 rfl
theorem wX5_fact_161 (hx : x = 0 ∨ x = 1) : E_ d mX5_fact 161 ls [.int x] h = some (some (.int x), h) := e_rtZ dX5_fact_161 rfl hx
theorem wX5_fact_162 : E_ d mX5_fact 162 [.val (.ref a), s1, s2, s3, s4] st h = E_ d mX5_fact 163 [.val (.ref a), s1, s2, s3, s4] (.ref a :: st) h := e_go dX5_fact_162 rfl rfl
theorem wX5_fact_163 (ht : oT h a = 7) : E_ d mX5_fact 163 ls (.ref a :: st) h = E_ d mX5_fact 166 ls (va_rf (oR h a 18) :: st) h := e_getR0 dX5_fact_163 rfl rfl ht
theorem wX5_fact_166 : E_ d mX5_fact 166 ls st h = E_ d mX5_fact 168 ls (.int (nI 8) :: st) h := e_bipush dX5_fact_166 kbipush_8 rfl
theorem wX5_fact_168 : E_ d mX5_fact 168 [s0, s1, s2, .val (.int x), s4] st h = E_ d mX5_fact 169 [s0, s1, s2, .val (.int x), s4] (.int x :: st) h := e_go dX5_fact_168 rfl rfl
theorem wX5_fact_169 : E_ d mX5_fact 169 ls (.int y :: .int x :: st) h = E_ d mX5_fact 170 ls (.int (x + y) :: st) h := e_go dX5_fact_169 rfl rfl
theorem wX5_fact_170 (ht : oT h a = 40) (hi : xix x (oN h a) = true) : E_ d mX5_fact 170 ls (.int x :: .ref a :: st) h = E_ d mX5_fact 171 ls (.int (oI h a x.toNatClampNeg) :: st) h := e_iald dX5_fact_170 rfl ht hi
theorem wX5_fact_171 : E_ d mX5_fact 171 [s0, s1, .val (.int x), s3, s4] st h = E_ d mX5_fact 172 [s0, s1, .val (.int x), s3, s4] (.int x :: st) h := e_go dX5_fact_171 rfl rfl
theorem wX5_fact_172 : E_ d mX5_fact 172 ls (.int y :: .int x :: st) h = if x < y then E_ d mX5_fact 179 ls st h else E_ d mX5_fact 175 ls st h := e_ilt dX5_fact_172 rfl rfl
theorem wX5_fact_175 : E_ d mX5_fact 175 ls st h = E_ d mX5_fact 176 ls (.int (nI 1) :: st) h := e_iconst dX5_fact_175 kiconst_1 rfl
theorem wX5_fact_176 : E_ d mX5_fact 176 ls st h = E_ d mX5_fact 180 ls st h := e_gt dX5_fact_176 rfl
theorem wX5_fact_179 : E_ d mX5_fact 179 ls st h = E_ d mX5_fact 180 ls (.int (nI 0) :: st) h := e_iconst dX5_fact_179 kiconst_0 rfl
theorem wX5_fact_180 (hx : x = 0 ∨ x = 1) : E_ d mX5_fact 180 ls [.int x] h = some (some (.int x), h) := e_rtZ dX5_fact_180 rfl hx
theorem wX5_fact_181 : E_ d mX5_fact 181 [s0, s1, s2, s3, .val (.int x)] st h = E_ d mX5_fact 183 [s0, s1, s2, s3, .val (.int x)] (.int x :: st) h := e_go dX5_fact_181 rfl rfl
theorem wX5_fact_183 : E_ d mX5_fact 183 [s0, s1, .val (.int x), s3, s4] st h = E_ d mX5_fact 184 [s0, s1, .val (.int x), s3, s4] (.int x :: st) h := e_go dX5_fact_183 rfl rfl
theorem wX5_fact_184 : E_ d mX5_fact 184 ls (.int y :: .int x :: st) h = if x = y then E_ d mX5_fact 187 ls st h else E_ d mX5_fact 191 ls st h := e_ine dX5_fact_184 rfl rfl
theorem wX5_fact_187 : E_ d mX5_fact 187 ls st h = E_ d mX5_fact 188 ls (.int (nI 1) :: st) h := e_iconst dX5_fact_187 kiconst_1 rfl
theorem wX5_fact_188 : E_ d mX5_fact 188 ls st h = E_ d mX5_fact 192 ls st h := e_gt dX5_fact_188 rfl
theorem wX5_fact_191 : E_ d mX5_fact 191 ls st h = E_ d mX5_fact 192 ls (.int (nI 0) :: st) h := e_iconst dX5_fact_191 kiconst_0 rfl
theorem wX5_fact_192 (hx : x = 0 ∨ x = 1) : E_ d mX5_fact 192 ls [.int x] h = some (some (.int x), h) := e_rtZ dX5_fact_192 rfl hx
theorem wX5_fact_193 : E_ d mX5_fact 193 [.val (.ref a), s1, s2, s3, s4] st h = E_ d mX5_fact 194 [.val (.ref a), s1, s2, s3, s4] (.ref a :: st) h := e_go dX5_fact_193 rfl rfl
theorem wX5_fact_194 (ht : oT h a = 7) : E_ d mX5_fact 194 ls (.ref a :: st) h = E_ d mX5_fact 197 ls (va_rf (oR h a 2) :: st) h := e_getR0 dX5_fact_194 rfl rfl ht
theorem wX5_fact_197 : E_ d mX5_fact 197 ls st h = E_ d mX5_fact 199 ls (.int (nI 26) :: st) h := e_bipush dX5_fact_197 kbipush_26 rfl
theorem wX5_fact_199 : E_ d mX5_fact 199 [s0, s1, s2, .val (.int x), s4] st h = E_ d mX5_fact 200 [s0, s1, s2, .val (.int x), s4] (.int x :: st) h := e_go dX5_fact_199 rfl rfl
theorem wX5_fact_200 : E_ d mX5_fact 200 ls (.int y :: .int x :: st) h = E_ d mX5_fact 201 ls (.int (x + y) :: st) h := e_go dX5_fact_200 rfl rfl
theorem wX5_fact_201 (ht : oT h a = 40) (hi : xix x (oN h a) = true) : E_ d mX5_fact 201 ls (.int x :: .ref a :: st) h = E_ d mX5_fact 202 ls (.int (oI h a x.toNatClampNeg) :: st) h := e_iald dX5_fact_201 rfl ht hi
theorem wX5_fact_202 : E_ d mX5_fact 202 [s0, s1, .val (.int x), s3, s4] st h = E_ d mX5_fact 203 [s0, s1, .val (.int x), s3, s4] (.int x :: st) h := e_go dX5_fact_202 rfl rfl
theorem wX5_fact_203 : E_ d mX5_fact 203 ls (.int y :: .int x :: st) h = if x = y then E_ d mX5_fact 206 ls st h else E_ d mX5_fact 210 ls st h := e_ine dX5_fact_203 rfl rfl
theorem wX5_fact_206 : E_ d mX5_fact 206 ls st h = E_ d mX5_fact 207 ls (.int (nI 1) :: st) h := e_iconst dX5_fact_206 kiconst_1 rfl
theorem wX5_fact_207 : E_ d mX5_fact 207 ls st h = E_ d mX5_fact 211 ls st h := e_gt dX5_fact_207 rfl
theorem wX5_fact_210 : E_ d mX5_fact 210 ls st h = E_ d mX5_fact 211 ls (.int (nI 0) :: st) h := e_iconst dX5_fact_210 kiconst_0 rfl
theorem wX5_fact_211 (hx : x = 0 ∨ x = 1) : E_ d mX5_fact 211 ls [.int x] h = some (some (.int x), h) := e_rtZ dX5_fact_211 rfl hx
theorem wX5_fact_212 : E_ d mX5_fact 212 [.val (.ref a), s1, s2, s3, s4] st h = E_ d mX5_fact 213 [.val (.ref a), s1, s2, s3, s4] (.ref a :: st) h := e_go dX5_fact_212 rfl rfl
theorem wX5_fact_213 : E_ d mX5_fact 213 [s0, s1, s2, s3, .val (.int x)] st h = E_ d mX5_fact 215 [s0, s1, s2, s3, .val (.int x)] (.int x :: st) h := e_go dX5_fact_213 rfl rfl
theorem wX5_fact_215 : E_ d mX5_fact 215 [s0, s1, s2, s3, .val (.int x)] st h = E_ d mX5_fact 217 [s0, s1, s2, s3, .val (.int x)] (.int x :: st) h := e_go dX5_fact_215 rfl rfl
theorem wX5_fact_217 : E_ d mX5_fact 217 ls st h = E_ d mX5_fact 218 ls (.int ((-1)) :: st) h := e_iconst dX5_fact_217 kiconst_m1 rfl
theorem wX5_fact_218 : E_ d mX5_fact 218 ls st h = E_ d mX5_fact 219 ls (.int (nI 2) :: st) h := e_iconst dX5_fact_218 kiconst_2 rfl
theorem wX5_fact_219 : E_ d mX5_fact 219 [.val (.ref a), s1, s2, s3, s4] st h = E_ d mX5_fact 220 [.val (.ref a), s1, s2, s3, s4] (.ref a :: st) h := e_go dX5_fact_219 rfl rfl
theorem wX5_fact_220 (ht : oT h a = 7) : E_ d mX5_fact 220 ls (.ref a :: st) h = E_ d mX5_fact 223 ls (va_rf (oR h a 18) :: st) h := e_getR0 dX5_fact_220 rfl rfl ht
theorem wX5_fact_223 : E_ d mX5_fact 223 ls st h = E_ d mX5_fact 224 ls (.int (nI 0) :: st) h := e_iconst dX5_fact_223 kiconst_0 rfl
theorem wX5_fact_224 : E_ d mX5_fact 224 [s0, s1, s2, .val (.int x), s4] st h = E_ d mX5_fact 225 [s0, s1, s2, .val (.int x), s4] (.int x :: st) h := e_go dX5_fact_224 rfl rfl
theorem wX5_fact_225 : E_ d mX5_fact 225 ls (.int y :: .int x :: st) h = E_ d mX5_fact 226 ls (.int (x + y) :: st) h := e_go dX5_fact_225 rfl rfl
theorem wX5_fact_226 (ht : oT h a = 40) (hi : xix x (oN h a) = true) : E_ d mX5_fact 226 ls (.int x :: .ref a :: st) h = E_ d mX5_fact 227 ls (.int (oI h a x.toNatClampNeg) :: st) h := e_iald dX5_fact_226 rfl ht hi
theorem wX5_fact_227 (ht : oT h a = 7) : E_ (d + 1) mX5_fact 227 ls [.int x5, .int x4, .int x3, .int x2, .int x1, .ref a] h = (C_ d mX5_isSome [.ref a, .int x1, .int x2, .int x3, .int x4, .int x5] h).bind fun r => E_ (d + 1) mX5_fact 230 ls (xpu r.1 []) r.2 := e_vir dX5_fact_227 rfl rfl rfl rfl rfl rfl (Nat.le_of_ble_eq_true rfl) (Nat.le_of_ble_eq_true rfl) ht
theorem wX5_fact_230 (hx : x = 0 ∨ x = 1) : E_ d mX5_fact 230 ls [.int x] h = some (some (.int x), h) := e_rtZ dX5_fact_230 rfl hx
theorem wX5_fact_231 : E_ d mX5_fact 231 [.val (.ref a), s1, s2, s3, s4] st h = E_ d mX5_fact 232 [.val (.ref a), s1, s2, s3, s4] (.ref a :: st) h := e_go dX5_fact_231 rfl rfl
theorem wX5_fact_232 : E_ d mX5_fact 232 [s0, s1, s2, s3, .val (.int x)] st h = E_ d mX5_fact 234 [s0, s1, s2, s3, .val (.int x)] (.int x :: st) h := e_go dX5_fact_232 rfl rfl
theorem wX5_fact_234 : E_ d mX5_fact 234 ls st h = E_ d mX5_fact 235 ls (.int (nI 1) :: st) h := e_iconst dX5_fact_234 kiconst_1 rfl
theorem wX5_fact_235 : E_ d mX5_fact 235 ls (.int y :: .int x :: st) h = E_ d mX5_fact 236 ls (.int (x - y) :: st) h := e_go dX5_fact_235 rfl rfl
theorem wX5_fact_236 : E_ d mX5_fact 236 [s0, s1, s2, s3, .val (.int x)] st h = E_ d mX5_fact 238 [s0, s1, s2, s3, .val (.int x)] (.int x :: st) h := e_go dX5_fact_236 rfl rfl
theorem wX5_fact_238 : E_ d mX5_fact 238 ls st h = E_ d mX5_fact 239 ls (.int (nI 1) :: st) h := e_iconst dX5_fact_238 kiconst_1 rfl
theorem wX5_fact_239 : E_ d mX5_fact 239 ls (.int y :: .int x :: st) h = E_ d mX5_fact 240 ls (.int (x + y) :: st) h := e_go dX5_fact_239 rfl rfl
theorem wX5_fact_240 : E_ d mX5_fact 240 [s0, s1, s2, s3, .val (.int x)] st h = E_ d mX5_fact 242 [s0, s1, s2, s3, .val (.int x)] (.int x :: st) h := e_go dX5_fact_240 rfl rfl
theorem wX5_fact_242 : E_ d mX5_fact 242 ls st h = E_ d mX5_fact 243 ls (.int (nI 2) :: st) h := e_iconst dX5_fact_242 kiconst_2 rfl
theorem wX5_fact_243 : E_ d mX5_fact 243 ls st h = E_ d mX5_fact 246 ls (.int (nI 1000) :: st) h := e_sipush dX5_fact_243 ksipush_1000 rfl
theorem wX5_fact_246 (ht : oT h a = 7) : E_ (d + 1) mX5_fact 246 ls [.int x5, .int x4, .int x3, .int x2, .int x1, .ref a] h = (C_ d mX5_isSome [.ref a, .int x1, .int x2, .int x3, .int x4, .int x5] h).bind fun r => E_ (d + 1) mX5_fact 249 ls (xpu r.1 []) r.2 := e_vir dX5_fact_246 rfl rfl rfl rfl rfl rfl (Nat.le_of_ble_eq_true rfl) (Nat.le_of_ble_eq_true rfl) ht
theorem wX5_fact_249 (hx : x = 0 ∨ x = 1) : E_ d mX5_fact 249 ls [.int x] h = some (some (.int x), h) := e_rtZ dX5_fact_249 rfl hx
theorem wX5_fact_250 : E_ d mX5_fact 250 [.val (.ref a), s1, s2, s3, s4] st h = E_ d mX5_fact 251 [.val (.ref a), s1, s2, s3, s4] (.ref a :: st) h := e_go dX5_fact_250 rfl rfl
theorem wX5_fact_251 : E_ d mX5_fact 251 ls st h = E_ d mX5_fact 252 ls (.int (nI 0) :: st) h := e_iconst dX5_fact_251 kiconst_0 rfl
theorem wX5_fact_252 : E_ d mX5_fact 252 ls st h = E_ d mX5_fact 253 ls (.int (nI 3) :: st) h := e_iconst dX5_fact_252 kiconst_3 rfl
theorem wX5_fact_253 : E_ d mX5_fact 253 [s0, s1, s2, s3, .val (.int x)] st h = E_ d mX5_fact 255 [s0, s1, s2, s3, .val (.int x)] (.int x :: st) h := e_go dX5_fact_253 rfl rfl
theorem wX5_fact_255 : E_ d mX5_fact 255 ls st h = E_ d mX5_fact 256 ls (.int (nI 1) :: st) h := e_iconst dX5_fact_255 kiconst_1 rfl
theorem wX5_fact_256 : E_ d mX5_fact 256 [.val (.ref a), s1, s2, s3, s4] st h = E_ d mX5_fact 257 [.val (.ref a), s1, s2, s3, s4] (.ref a :: st) h := e_go dX5_fact_256 rfl rfl
theorem wX5_fact_257 (ht : oT h a = 7) : E_ d mX5_fact 257 ls (.ref a :: st) h = E_ d mX5_fact 260 ls (va_rf (oR h a 18) :: st) h := e_getR0 dX5_fact_257 rfl rfl ht
theorem wX5_fact_260 : E_ d mX5_fact 260 ls st h = E_ d mX5_fact 261 ls (.int (nI 0) :: st) h := e_iconst dX5_fact_260 kiconst_0 rfl
theorem wX5_fact_261 : E_ d mX5_fact 261 [s0, s1, s2, .val (.int x), s4] st h = E_ d mX5_fact 262 [s0, s1, s2, .val (.int x), s4] (.int x :: st) h := e_go dX5_fact_261 rfl rfl
theorem wX5_fact_262 : E_ d mX5_fact 262 ls (.int y :: .int x :: st) h = E_ d mX5_fact 263 ls (.int (x + y) :: st) h := e_go dX5_fact_262 rfl rfl
theorem wX5_fact_263 (ht : oT h a = 40) (hi : xix x (oN h a) = true) : E_ d mX5_fact 263 ls (.int x :: .ref a :: st) h = E_ d mX5_fact 264 ls (.int (oI h a x.toNatClampNeg) :: st) h := e_iald dX5_fact_263 rfl ht hi
theorem wX5_fact_264 (ht : oT h a = 7) : E_ (d + 1) mX5_fact 264 ls [.int x5, .int x4, .int x3, .int x2, .int x1, .ref a] h = (C_ d mX5_isSome [.ref a, .int x1, .int x2, .int x3, .int x4, .int x5] h).bind fun r => E_ (d + 1) mX5_fact 267 ls (xpu r.1 []) r.2 := e_vir dX5_fact_264 rfl rfl rfl rfl rfl rfl (Nat.le_of_ble_eq_true rfl) (Nat.le_of_ble_eq_true rfl) ht
theorem wX5_fact_267 (hx : x = 0 ∨ x = 1) : E_ d mX5_fact 267 ls [.int x] h = some (some (.int x), h) := e_rtZ dX5_fact_267 rfl hx
theorem wX5_fact_268 : E_ d mX5_fact 268 [.val (.ref a), s1, s2, s3, s4] st h = E_ d mX5_fact 269 [.val (.ref a), s1, s2, s3, s4] (.ref a :: st) h := e_go dX5_fact_268 rfl rfl
theorem wX5_fact_269 (ht : oT h a = 7) : E_ d mX5_fact 269 ls (.ref a :: st) h = E_ d mX5_fact 272 ls (va_rf (oR h a 18) :: st) h := e_getR0 dX5_fact_269 rfl rfl ht
theorem wX5_fact_272 : E_ d mX5_fact 272 ls st h = E_ d mX5_fact 274 ls (.int (nI 32) :: st) h := e_bipush dX5_fact_272 kbipush_32 rfl
theorem wX5_fact_274 (ht : oT h a = 40) (hi : xix x (oN h a) = true) : E_ d mX5_fact 274 ls (.int x :: .ref a :: st) h = E_ d mX5_fact 275 ls (.int (oI h a x.toNatClampNeg) :: st) h := e_iald dX5_fact_274 rfl ht hi
theorem wX5_fact_275 : E_ d mX5_fact 275 ls (.int x :: st) h = if 0 < x then E_ d mX5_fact 289 ls st h else E_ d mX5_fact 278 ls st h := e_zgt dX5_fact_275 rfl rfl
theorem wX5_fact_278 : E_ d mX5_fact 278 [.val (.ref a), s1, s2, s3, s4] st h = E_ d mX5_fact 279 [.val (.ref a), s1, s2, s3, s4] (.ref a :: st) h := e_go dX5_fact_278 rfl rfl
theorem wX5_fact_279 (ht : oT h a = 7) : E_ d mX5_fact 279 ls (.ref a :: st) h = E_ d mX5_fact 282 ls (va_rf (oR h a 18) :: st) h := e_getR0 dX5_fact_279 rfl rfl ht
theorem wX5_fact_282 : E_ d mX5_fact 282 ls st h = E_ d mX5_fact 284 ls (.int (nI 33) :: st) h := e_bipush dX5_fact_282 kbipush_33 rfl
theorem wX5_fact_284 (ht : oT h a = 40) (hi : xix x (oN h a) = true) : E_ d mX5_fact 284 ls (.int x :: .ref a :: st) h = E_ d mX5_fact 285 ls (.int (oI h a x.toNatClampNeg) :: st) h := e_iald dX5_fact_284 rfl ht hi
theorem wX5_fact_285 : E_ d mX5_fact 285 ls st h = E_ d mX5_fact 286 ls (.int (nI 1) :: st) h := e_iconst dX5_fact_285 kiconst_1 rfl
theorem wX5_fact_286 : E_ d mX5_fact 286 ls (.int y :: .int x :: st) h = if x = y then E_ d mX5_fact 289 ls st h else E_ d mX5_fact 293 ls st h := e_ine dX5_fact_286 rfl rfl
theorem wX5_fact_289 : E_ d mX5_fact 289 ls st h = E_ d mX5_fact 290 ls (.int (nI 1) :: st) h := e_iconst dX5_fact_289 kiconst_1 rfl
theorem wX5_fact_290 : E_ d mX5_fact 290 ls st h = E_ d mX5_fact 294 ls st h := e_gt dX5_fact_290 rfl
theorem wX5_fact_293 : E_ d mX5_fact 293 ls st h = E_ d mX5_fact 294 ls (.int (nI 0) :: st) h := e_iconst dX5_fact_293 kiconst_0 rfl
theorem wX5_fact_294 (hx : x = 0 ∨ x = 1) : E_ d mX5_fact 294 ls [.int x] h = some (some (.int x), h) := e_rtZ dX5_fact_294 rfl hx
/-! FootOutModel.isSome -/
theorem wX5_isSome_0 : E_ d mX5_isSome 0 ls st h = E_ d mX5_isSome 1 ls (.int (nI 0) :: st) h := e_iconst dX5_isSome_0 kiconst_0 rfl
theorem wX5_isSome_1 : E_ d mX5_isSome 1 [s0, s1, s2, s3, s4, s5, s6, s7] (.int x :: st) h = E_ d mX5_isSome 3 [s0, s1, s2, s3, s4, xk s5, .val (.int x), s7] st h := e_go dX5_isSome_1 rfl rfl
theorem wX5_isSome_3 : E_ d mX5_isSome 3 [s0, s1, s2, s3, s4, s5, .val (.int x), s7] st h = E_ d mX5_isSome 5 [s0, s1, s2, s3, s4, s5, .val (.int x), s7] (.int x :: st) h := e_go dX5_isSome_3 rfl rfl
theorem wX5_isSome_5 : E_ d mX5_isSome 5 [.val (.ref a), s1, s2, s3, s4, s5, s6, s7] st h = E_ d mX5_isSome 6 [.val (.ref a), s1, s2, s3, s4, s5, s6, s7] (.ref a :: st) h := e_go dX5_isSome_5 rfl rfl
theorem wX5_isSome_6 (ht : oT h a = 7) : E_ d mX5_isSome 6 ls (.ref a :: st) h = E_ d mX5_isSome 9 ls (va_rf (oR h a 2) :: st) h := e_getR0 dX5_isSome_6 rfl rfl ht
theorem wX5_isSome_9 : E_ d mX5_isSome 9 ls st h = E_ d mX5_isSome 10 ls (.int (nI 1) :: st) h := e_iconst dX5_isSome_9 kiconst_1 rfl
theorem wX5_isSome_10 (ht : oT h a = 40) (hi : xix x (oN h a) = true) : E_ d mX5_isSome 10 ls (.int x :: .ref a :: st) h = E_ d mX5_isSome 11 ls (.int (oI h a x.toNatClampNeg) :: st) h := e_iald dX5_isSome_10 rfl ht hi
theorem wX5_isSome_11 : E_ d mX5_isSome 11 ls (.int y :: .int x :: st) h = if x < y then E_ d mX5_isSome 14 ls st h else E_ d mX5_isSome 92 ls st h := e_ige dX5_isSome_11 rfl rfl
theorem wX5_isSome_14 : E_ d mX5_isSome 14 [.val (.ref a), s1, s2, s3, s4, s5, s6, s7] st h = E_ d mX5_isSome 15 [.val (.ref a), s1, s2, s3, s4, s5, s6, s7] (.ref a :: st) h := e_go dX5_isSome_14 rfl rfl
theorem wX5_isSome_15 (ht : oT h a = 7) : E_ d mX5_isSome 15 ls (.ref a :: st) h = E_ d mX5_isSome 18 ls (va_rf (oR h a 2) :: st) h := e_getR0 dX5_isSome_15 rfl rfl ht
theorem wX5_isSome_18 : E_ d mX5_isSome 18 ls st h = E_ d mX5_isSome 19 ls (.int (nI 2) :: st) h := e_iconst dX5_isSome_18 kiconst_2 rfl
theorem wX5_isSome_19 : E_ d mX5_isSome 19 [s0, s1, s2, s3, s4, s5, .val (.int x), s7] st h = E_ d mX5_isSome 21 [s0, s1, s2, s3, s4, s5, .val (.int x), s7] (.int x :: st) h := e_go dX5_isSome_19 rfl rfl
theorem wX5_isSome_21 : E_ d mX5_isSome 21 ls (.int y :: .int x :: st) h = E_ d mX5_isSome 22 ls (.int (x + y) :: st) h := e_go dX5_isSome_21 rfl rfl
theorem wX5_isSome_22 (ht : oT h a = 40) (hi : xix x (oN h a) = true) : E_ d mX5_isSome 22 ls (.int x :: .ref a :: st) h = E_ d mX5_isSome 23 ls (.int (oI h a x.toNatClampNeg) :: st) h := e_iald dX5_isSome_22 rfl ht hi
theorem wX5_isSome_23 : E_ d mX5_isSome 23 [s0, s1, s2, s3, s4, s5, s6, s7] (.int x :: st) h = E_ d mX5_isSome 25 [s0, s1, s2, s3, s4, s5, xk s6, .val (.int x)] st h := e_go dX5_isSome_23 rfl rfl
theorem wX5_isSome_25 : E_ d mX5_isSome 25 [s0, s1, s2, s3, s4, s5, s6, .val (.int x)] st h = E_ d mX5_isSome 27 [s0, s1, s2, s3, s4, s5, s6, .val (.int x)] (.int x :: st) h := e_go dX5_isSome_25 rfl rfl
theorem wX5_isSome_27 : E_ d mX5_isSome 27 [s0, .val (.int x), s2, s3, s4, s5, s6, s7] st h = E_ d mX5_isSome 28 [s0, .val (.int x), s2, s3, s4, s5, s6, s7] (.int x :: st) h := e_go dX5_isSome_27 rfl rfl
theorem wX5_isSome_28 : E_ d mX5_isSome 28 ls (.int y :: .int x :: st) h = if x < y then E_ d mX5_isSome 86 ls st h else E_ d mX5_isSome 31 ls st h := e_ilt dX5_isSome_28 rfl rfl
theorem wX5_isSome_31 : E_ d mX5_isSome 31 [s0, s1, s2, s3, s4, s5, s6, .val (.int x)] st h = E_ d mX5_isSome 33 [s0, s1, s2, s3, s4, s5, s6, .val (.int x)] (.int x :: st) h := e_go dX5_isSome_31 rfl rfl
theorem wX5_isSome_33 : E_ d mX5_isSome 33 [s0, s1, .val (.int x), s3, s4, s5, s6, s7] st h = E_ d mX5_isSome 34 [s0, s1, .val (.int x), s3, s4, s5, s6, s7] (.int x :: st) h := e_go dX5_isSome_33 rfl rfl
theorem wX5_isSome_34 : E_ d mX5_isSome 34 ls (.int y :: .int x :: st) h = if y < x then E_ d mX5_isSome 86 ls st h else E_ d mX5_isSome 37 ls st h := e_igt dX5_isSome_34 rfl rfl
theorem wX5_isSome_37 : E_ d mX5_isSome 37 [s0, s1, s2, s3, s4, s5, s6, .val (.int x)] st h = E_ d mX5_isSome 39 [s0, s1, s2, s3, s4, s5, s6, .val (.int x)] (.int x :: st) h := e_go dX5_isSome_37 rfl rfl
theorem wX5_isSome_39 : E_ d mX5_isSome 39 [s0, s1, s2, .val (.int x), s4, s5, s6, s7] st h = E_ d mX5_isSome 40 [s0, s1, s2, .val (.int x), s4, s5, s6, s7] (.int x :: st) h := e_go dX5_isSome_39 rfl rfl
theorem wX5_isSome_40 : E_ d mX5_isSome 40 ls (.int y :: .int x :: st) h = if x = y then E_ d mX5_isSome 86 ls st h else E_ d mX5_isSome 43 ls st h := e_ieq dX5_isSome_40 rfl rfl
theorem wX5_isSome_43 : E_ d mX5_isSome 43 [.val (.ref a), s1, s2, s3, s4, s5, s6, s7] st h = E_ d mX5_isSome 44 [.val (.ref a), s1, s2, s3, s4, s5, s6, s7] (.ref a :: st) h := e_go dX5_isSome_43 rfl rfl
theorem wX5_isSome_44 (ht : oT h a = 7) : E_ d mX5_isSome 44 ls (.ref a :: st) h = E_ d mX5_isSome 47 ls (va_rf (oR h a 18) :: st) h := e_getR0 dX5_isSome_44 rfl rfl ht
theorem wX5_isSome_47 : E_ d mX5_isSome 47 ls st h = E_ d mX5_isSome 49 ls (.int (nI 16) :: st) h := e_bipush dX5_isSome_47 kbipush_16 rfl
theorem wX5_isSome_49 : E_ d mX5_isSome 49 [s0, s1, s2, s3, s4, s5, .val (.int x), s7] st h = E_ d mX5_isSome 51 [s0, s1, s2, s3, s4, s5, .val (.int x), s7] (.int x :: st) h := e_go dX5_isSome_49 rfl rfl
theorem wX5_isSome_51 : E_ d mX5_isSome 51 ls (.int y :: .int x :: st) h = E_ d mX5_isSome 52 ls (.int (x + y) :: st) h := e_go dX5_isSome_51 rfl rfl
theorem wX5_isSome_52 (ht : oT h a = 40) (hi : xix x (oN h a) = true) : E_ d mX5_isSome 52 ls (.int x :: .ref a :: st) h = E_ d mX5_isSome 53 ls (.int (oI h a x.toNatClampNeg) :: st) h := e_iald dX5_isSome_52 rfl ht hi
theorem wX5_isSome_53 : E_ d mX5_isSome 53 [s0, s1, s2, s3, .val (.int x), s5, s6, s7] st h = E_ d mX5_isSome 55 [s0, s1, s2, s3, .val (.int x), s5, s6, s7] (.int x :: st) h := e_go dX5_isSome_53 rfl rfl
theorem wX5_isSome_55 : E_ d mX5_isSome 55 ls (.int y :: .int x :: st) h = if x = y then E_ d mX5_isSome 58 ls st h else E_ d mX5_isSome 86 ls st h := e_ine dX5_isSome_55 rfl rfl
theorem wX5_isSome_58 : E_ d mX5_isSome 58 [.val (.ref a), s1, s2, s3, s4, s5, s6, s7] st h = E_ d mX5_isSome 59 [.val (.ref a), s1, s2, s3, s4, s5, s6, s7] (.ref a :: st) h := e_go dX5_isSome_58 rfl rfl
theorem wX5_isSome_59 (ht : oT h a = 7) : E_ d mX5_isSome 59 ls (.ref a :: st) h = E_ d mX5_isSome 62 ls (va_rf (oR h a 18) :: st) h := e_getR0 dX5_isSome_59 rfl rfl ht
theorem wX5_isSome_62 : E_ d mX5_isSome 62 ls st h = E_ d mX5_isSome 63 ls (.int (nI 0) :: st) h := e_iconst dX5_isSome_62 kiconst_0 rfl
theorem wX5_isSome_63 : E_ d mX5_isSome 63 [s0, s1, s2, s3, s4, s5, .val (.int x), s7] st h = E_ d mX5_isSome 65 [s0, s1, s2, s3, s4, s5, .val (.int x), s7] (.int x :: st) h := e_go dX5_isSome_63 rfl rfl
theorem wX5_isSome_65 : E_ d mX5_isSome 65 ls (.int y :: .int x :: st) h = E_ d mX5_isSome 66 ls (.int (x + y) :: st) h := e_go dX5_isSome_65 rfl rfl
theorem wX5_isSome_66 (ht : oT h a = 40) (hi : xix x (oN h a) = true) : E_ d mX5_isSome 66 ls (.int x :: .ref a :: st) h = E_ d mX5_isSome 67 ls (.int (oI h a x.toNatClampNeg) :: st) h := e_iald dX5_isSome_66 rfl ht hi
theorem wX5_isSome_67 : E_ d mX5_isSome 67 ls (.int x :: st) h = if 0 < x then E_ d mX5_isSome 70 ls st h else E_ d mX5_isSome 86 ls st h := e_zle dX5_isSome_67 rfl rfl
theorem wX5_isSome_70 : E_ d mX5_isSome 70 [.val (.ref a), s1, s2, s3, s4, s5, s6, s7] st h = E_ d mX5_isSome 71 [.val (.ref a), s1, s2, s3, s4, s5, s6, s7] (.ref a :: st) h := e_go dX5_isSome_70 rfl rfl
theorem wX5_isSome_71 (ht : oT h a = 7) : E_ d mX5_isSome 71 ls (.ref a :: st) h = E_ d mX5_isSome 74 ls (va_rf (oR h a 18) :: st) h := e_getR0 dX5_isSome_71 rfl rfl ht
theorem wX5_isSome_74 : E_ d mX5_isSome 74 ls st h = E_ d mX5_isSome 75 ls (.int (nI 0) :: st) h := e_iconst dX5_isSome_74 kiconst_0 rfl
theorem wX5_isSome_75 : E_ d mX5_isSome 75 [s0, s1, s2, s3, s4, s5, .val (.int x), s7] st h = E_ d mX5_isSome 77 [s0, s1, s2, s3, s4, s5, .val (.int x), s7] (.int x :: st) h := e_go dX5_isSome_75 rfl rfl
theorem wX5_isSome_77 : E_ d mX5_isSome 77 ls (.int y :: .int x :: st) h = E_ d mX5_isSome 78 ls (.int (x + y) :: st) h := e_go dX5_isSome_77 rfl rfl
theorem wX5_isSome_78 (ht : oT h a = 40) (hi : xix x (oN h a) = true) : E_ d mX5_isSome 78 ls (.int x :: .ref a :: st) h = E_ d mX5_isSome 79 ls (.int (oI h a x.toNatClampNeg) :: st) h := e_iald dX5_isSome_78 rfl ht hi
theorem wX5_isSome_79 : E_ d mX5_isSome 79 [s0, s1, s2, s3, s4, .val (.int x), s6, s7] st h = E_ d mX5_isSome 81 [s0, s1, s2, s3, s4, .val (.int x), s6, s7] (.int x :: st) h := e_go dX5_isSome_79 rfl rfl
theorem wX5_isSome_81 : E_ d mX5_isSome 81 ls (.int y :: .int x :: st) h = if x < y then E_ d mX5_isSome 84 ls st h else E_ d mX5_isSome 86 ls st h := e_ige dX5_isSome_81 rfl rfl
theorem wX5_isSome_84 : E_ d mX5_isSome 84 ls st h = E_ d mX5_isSome 85 ls (.int (nI 1) :: st) h := e_iconst dX5_isSome_84 kiconst_1 rfl
theorem wX5_isSome_85 (hx : x = 0 ∨ x = 1) : E_ d mX5_isSome 85 ls [.int x] h = some (some (.int x), h) := e_rtZ dX5_isSome_85 rfl hx
theorem wX5_isSome_86 : E_ d mX5_isSome 86 [s0, s1, s2, s3, s4, s5, .val (.int x), s7] st h = E_ d mX5_isSome 89 [s0, s1, s2, s3, s4, xk s5, .val (.int (x + nI 1)), s7] st h := by rw [← kiinc_1]; exact e_go dX5_isSome_86 rfl rfl
theorem wX5_isSome_89 : E_ d mX5_isSome 89 ls st h = E_ d mX5_isSome 3 ls st h := e_gt dX5_isSome_89 rfl
theorem wX5_isSome_92 : E_ d mX5_isSome 92 ls st h = E_ d mX5_isSome 93 ls (.int (nI 0) :: st) h := e_iconst dX5_isSome_92 kiconst_0 rfl
theorem wX5_isSome_93 (hx : x = 0 ∨ x = 1) : E_ d mX5_isSome 93 ls [.int x] h = some (some (.int x), h) := e_rtZ dX5_isSome_93 rfl hx
/-! FootOutModel.can -/
theorem wX5_can_0 : E_ d mX5_can 0 [.val (.ref a), s1] st h = E_ d mX5_can 1 [.val (.ref a), s1] (.ref a :: st) h := e_go dX5_can_0 rfl rfl
theorem wX5_can_1 : E_ d mX5_can 1 ls st h = E_ d mX5_can 2 ls (.int (nI 0) :: st) h := e_iconst dX5_can_1 kiconst_0 rfl
theorem wX5_can_2 (ht : oT h a = 7) : E_ d mX5_can 2 ls (.int x :: .ref a :: st) h = E_ d mX5_can 5 ls st (pI h a (va_up (oI h a) 0 x)) := e_putI dX5_can_2 rfl rfl ht
theorem wX5_can_5 : E_ d mX5_can 5 [.val (.ref a), s1] st h = E_ d mX5_can 6 [.val (.ref a), s1] (.ref a :: st) h := e_go dX5_can_5 rfl rfl
theorem wX5_can_6 : E_ d mX5_can 6 [s0, .val (.int x)] st h = E_ d mX5_can 7 [s0, .val (.int x)] (.int x :: st) h := e_go dX5_can_6 rfl rfl
theorem wX5_can_7 (ht : oT h a = 7) : E_ (d + 1) mX5_can 7 ls [.int x1, .ref a] h = (C_ d mX5_isCar [.ref a, .int x1] h).bind fun r => E_ (d + 1) mX5_can 10 ls (xpu r.1 []) r.2 := e_vir dX5_can_7 rfl rfl rfl rfl rfl rfl (Nat.le_of_ble_eq_true rfl) (Nat.le_of_ble_eq_true rfl) ht
theorem wX5_can_10 : E_ d mX5_can 10 ls (.int x :: st) h = if x = 0 then E_ d mX5_can 13 ls st h else E_ d mX5_can 20 ls st h := e_zne dX5_can_10 rfl rfl
theorem wX5_can_13 : E_ d mX5_can 13 [.val (.ref a), s1] st h = E_ d mX5_can 14 [.val (.ref a), s1] (.ref a :: st) h := e_go dX5_can_13 rfl rfl
theorem wX5_can_14 : E_ d mX5_can 14 ls st h = E_ d mX5_can 16 ls (.int ((-2)) :: st) h := e_bipush dX5_can_14 kbipush_m2 rfl
theorem wX5_can_16 (ht : oT h a = 7) : E_ (d + 1) mX5_can 16 ls [.int x1, .ref a] h = (C_ d mX5_no [.ref a, .int x1] h).bind fun r => E_ (d + 1) mX5_can 19 ls (xpu r.1 []) r.2 := e_vir dX5_can_16 rfl rfl rfl rfl rfl rfl (Nat.le_of_ble_eq_true rfl) (Nat.le_of_ble_eq_true rfl) ht
theorem wX5_can_19 : E_ d mX5_can 19 ls [.int x] h = some (some (.int x), h) := e_rt dX5_can_19 rfl rfl
theorem wX5_can_20 : E_ d mX5_can 20 [.val (.ref a), s1] st h = E_ d mX5_can 21 [.val (.ref a), s1] (.ref a :: st) h := e_go dX5_can_20 rfl rfl
theorem wX5_can_21 : E_ d mX5_can 21 ls st h = E_ d mX5_can 22 ls (.int (nI 0) :: st) h := e_iconst dX5_can_21 kiconst_0 rfl
theorem wX5_can_22 (ht : oT h a = 7) : E_ (d + 1) mX5_can 22 ls [.int x1, .ref a] h = (C_ d mX5_begins [.ref a, .int x1] h).bind fun r => E_ (d + 1) mX5_can 25 ls (xpu r.1 []) r.2 := e_vir dX5_can_22 rfl rfl rfl rfl rfl rfl (Nat.le_of_ble_eq_true rfl) (Nat.le_of_ble_eq_true rfl) ht
theorem wX5_can_25 : E_ d mX5_can 25 [.val (.ref a), s1] st h = E_ d mX5_can 26 [.val (.ref a), s1] (.ref a :: st) h := e_go dX5_can_25 rfl rfl
theorem wX5_can_26 : E_ d mX5_can 26 [s0, .val (.int x)] st h = E_ d mX5_can 27 [s0, .val (.int x)] (.int x :: st) h := e_go dX5_can_26 rfl rfl
theorem wX5_can_27 (ht : oT h a = 7) : E_ (d + 1) mX5_can 27 ls [.int x1, .ref a] h = (C_ d mX5_canStop [.ref a, .int x1] h).bind fun r => E_ (d + 1) mX5_can 30 ls (xpu r.1 []) r.2 := e_vir dX5_can_27 rfl rfl rfl rfl rfl rfl (Nat.le_of_ble_eq_true rfl) (Nat.le_of_ble_eq_true rfl) ht
theorem wX5_can_30 : E_ d mX5_can 30 ls (.int x :: st) h = if x = 0 then E_ d mX5_can 37 ls st h else E_ d mX5_can 33 ls st h := e_zeq dX5_can_30 rfl rfl
theorem wX5_can_33 : E_ d mX5_can 33 ls st h = E_ d mX5_can 34 ls (.int (nI 1) :: st) h := e_iconst dX5_can_33 kiconst_1 rfl
theorem wX5_can_34 : E_ d mX5_can 34 ls st h = E_ d mX5_can 38 ls st h := e_gt dX5_can_34 rfl
theorem wX5_can_37 : E_ d mX5_can 37 ls st h = E_ d mX5_can 38 ls (.int (nI 0) :: st) h := e_iconst dX5_can_37 kiconst_0 rfl
theorem wX5_can_38 : E_ d mX5_can 38 ls [.int x] h = some (some (.int x), h) := e_rt dX5_can_38 rfl rfl
/-! FootOutModel.canStop -/
theorem wX5_canStop_0 : E_ d mX5_canStop 0 [.val (.ref a), s1] st h = E_ d mX5_canStop 1 [.val (.ref a), s1] (.ref a :: st) h := e_go dX5_canStop_0 rfl rfl
theorem wX5_canStop_1 (ht : oT h a = 7) : E_ d mX5_canStop 1 ls (.ref a :: st) h = E_ d mX5_canStop 4 ls (va_rf (oR h a 18) :: st) h := e_getR0 dX5_canStop_1 rfl rfl ht
theorem wX5_canStop_4 : E_ d mX5_canStop 4 ls st h = E_ d mX5_canStop 6 ls (.int (nI 8) :: st) h := e_bipush dX5_canStop_4 kbipush_8 rfl
theorem wX5_canStop_6 : E_ d mX5_canStop 6 [s0, .val (.int x)] st h = E_ d mX5_canStop 7 [s0, .val (.int x)] (.int x :: st) h := e_go dX5_canStop_6 rfl rfl
theorem wX5_canStop_7 : E_ d mX5_canStop 7 ls (.int y :: .int x :: st) h = E_ d mX5_canStop 8 ls (.int (x + y) :: st) h := e_go dX5_canStop_7 rfl rfl
theorem wX5_canStop_8 (ht : oT h a = 40) (hi : xix x (oN h a) = true) : E_ d mX5_canStop 8 ls (.int x :: .ref a :: st) h = E_ d mX5_canStop 9 ls (.int (oI h a x.toNatClampNeg) :: st) h := e_iald dX5_canStop_8 rfl ht hi
theorem wX5_canStop_9 : E_ d mX5_canStop 9 [.val (.ref a), s1] st h = E_ d mX5_canStop 10 [.val (.ref a), s1] (.ref a :: st) h := e_go dX5_canStop_9 rfl rfl
theorem wX5_canStop_10 (ht : oT h a = 7) : E_ d mX5_canStop 10 ls (.ref a :: st) h = E_ d mX5_canStop 13 ls (va_rf (oR h a 18) :: st) h := e_getR0 dX5_canStop_10 rfl rfl ht
theorem wX5_canStop_13 : E_ d mX5_canStop 13 ls st h = E_ d mX5_canStop 15 ls (.int (nI 8) :: st) h := e_bipush dX5_canStop_13 kbipush_8 rfl
theorem wX5_canStop_15 : E_ d mX5_canStop 15 [s0, .val (.int x)] st h = E_ d mX5_canStop 16 [s0, .val (.int x)] (.int x :: st) h := e_go dX5_canStop_15 rfl rfl
theorem wX5_canStop_16 : E_ d mX5_canStop 16 ls (.int y :: .int x :: st) h = E_ d mX5_canStop 17 ls (.int (x + y) :: st) h := e_go dX5_canStop_16 rfl rfl
theorem wX5_canStop_17 (ht : oT h a = 40) (hi : xix x (oN h a) = true) : E_ d mX5_canStop 17 ls (.int x :: .ref a :: st) h = E_ d mX5_canStop 18 ls (.int (oI h a x.toNatClampNeg) :: st) h := e_iald dX5_canStop_17 rfl ht hi
theorem wX5_canStop_18 : E_ d mX5_canStop 18 ls st h = E_ d mX5_canStop 19 ls (.int (nI 1) :: st) h := e_iconst dX5_canStop_18 kiconst_1 rfl
theorem wX5_canStop_19 : E_ d mX5_canStop 19 ls (.int y :: .int x :: st) h = E_ d mX5_canStop 20 ls (.int (x - y) :: st) h := e_go dX5_canStop_19 rfl rfl
theorem wX5_canStop_20 : E_ d mX5_canStop 20 ls (.int y :: .int x :: st) h = E_ d mX5_canStop 21 ls (.int (x * y) :: st) h := e_go dX5_canStop_20 rfl rfl
theorem wX5_canStop_21 : E_ d mX5_canStop 21 ls st h = E_ d mX5_canStop 22 ls (.int (nI 2) :: st) h := e_iconst dX5_canStop_21 kiconst_2 rfl
theorem wX5_canStop_22 (hy : ¬ y = 0) : E_ d mX5_canStop 22 ls (.int y :: .int x :: st) h = E_ d mX5_canStop 23 ls (.int (x / y) :: st) h := e_div dX5_canStop_22 rfl hy
theorem wX5_canStop_23 : E_ d mX5_canStop 23 [.val (.ref a), s1] st h = E_ d mX5_canStop 24 [.val (.ref a), s1] (.ref a :: st) h := e_go dX5_canStop_23 rfl rfl
theorem wX5_canStop_24 (ht : oT h a = 7) : E_ d mX5_canStop 24 ls (.ref a :: st) h = E_ d mX5_canStop 27 ls (va_rf (oR h a 18) :: st) h := e_getR0 dX5_canStop_24 rfl rfl ht
theorem wX5_canStop_27 : E_ d mX5_canStop 27 ls st h = E_ d mX5_canStop 28 ls (.int (nI 0) :: st) h := e_iconst dX5_canStop_27 kiconst_0 rfl
theorem wX5_canStop_28 : E_ d mX5_canStop 28 [s0, .val (.int x)] st h = E_ d mX5_canStop 29 [s0, .val (.int x)] (.int x :: st) h := e_go dX5_canStop_28 rfl rfl
theorem wX5_canStop_29 : E_ d mX5_canStop 29 ls (.int y :: .int x :: st) h = E_ d mX5_canStop 30 ls (.int (x + y) :: st) h := e_go dX5_canStop_29 rfl rfl
theorem wX5_canStop_30 (ht : oT h a = 40) (hi : xix x (oN h a) = true) : E_ d mX5_canStop 30 ls (.int x :: .ref a :: st) h = E_ d mX5_canStop 31 ls (.int (oI h a x.toNatClampNeg) :: st) h := e_iald dX5_canStop_30 rfl ht hi
theorem wX5_canStop_31 : E_ d mX5_canStop 31 [.val (.ref a), s1] st h = E_ d mX5_canStop 32 [.val (.ref a), s1] (.ref a :: st) h := e_go dX5_canStop_31 rfl rfl
theorem wX5_canStop_32 (ht : oT h a = 7) : E_ d mX5_canStop 32 ls (.ref a :: st) h = E_ d mX5_canStop 35 ls (va_rf (oR h a 2) :: st) h := e_getR0 dX5_canStop_32 rfl rfl ht
theorem wX5_canStop_35 : E_ d mX5_canStop 35 ls st h = E_ d mX5_canStop 37 ls (.int (nI 35) :: st) h := e_bipush dX5_canStop_35 kbipush_35 rfl
theorem wX5_canStop_37 (ht : oT h a = 40) (hi : xix x (oN h a) = true) : E_ d mX5_canStop 37 ls (.int x :: .ref a :: st) h = E_ d mX5_canStop 38 ls (.int (oI h a x.toNatClampNeg) :: st) h := e_iald dX5_canStop_37 rfl ht hi
theorem wX5_canStop_38 : E_ d mX5_canStop 38 ls (.int y :: .int x :: st) h = E_ d mX5_canStop 39 ls (.int (x - y) :: st) h := e_go dX5_canStop_38 rfl rfl
theorem wX5_canStop_39 : E_ d mX5_canStop 39 ls (.int y :: .int x :: st) h = if y < x then E_ d mX5_canStop 46 ls st h else E_ d mX5_canStop 42 ls st h := e_igt dX5_canStop_39 rfl rfl
theorem wX5_canStop_42 : E_ d mX5_canStop 42 ls st h = E_ d mX5_canStop 43 ls (.int (nI 1) :: st) h := e_iconst dX5_canStop_42 kiconst_1 rfl
theorem wX5_canStop_43 : E_ d mX5_canStop 43 ls st h = E_ d mX5_canStop 47 ls st h := e_gt dX5_canStop_43 rfl
theorem wX5_canStop_46 : E_ d mX5_canStop 46 ls st h = E_ d mX5_canStop 47 ls (.int (nI 0) :: st) h := e_iconst dX5_canStop_46 kiconst_0 rfl
theorem wX5_canStop_47 (hx : x = 0 ∨ x = 1) : E_ d mX5_canStop 47 ls [.int x] h = some (some (.int x), h) := e_rtZ dX5_canStop_47 rfl hx
/-! FootOutModel.run -/
theorem wX5_run_0 : E_ d mX5_run 0 [.val (.ref a), s1, s2] st h = E_ d mX5_run 1 [.val (.ref a), s1, s2] (.ref a :: st) h := e_go dX5_run_0 rfl rfl
theorem wX5_run_1 : E_ d mX5_run 1 ls st h = E_ d mX5_run 2 ls (.int (nI 0) :: st) h := e_iconst dX5_run_1 kiconst_0 rfl
theorem wX5_run_2 (ht : oT h a = 7) : E_ d mX5_run 2 ls (.int x :: .ref a :: st) h = E_ d mX5_run 5 ls st (pI h a (va_up (oI h a) 0 x)) := e_putI dX5_run_2 rfl rfl ht
theorem wX5_run_5 : E_ d mX5_run 5 [s0, s1, .val (.int x)] st h = E_ d mX5_run 6 [s0, s1, .val (.int x)] (.int x :: st) h := e_go dX5_run_5 rfl rfl
theorem wX5_run_6 : E_ d mX5_run 6 ls (.int x :: st) h = E_ d mX5_run 7 ls (.long x.toInt64 :: st) h := e_go dX5_run_6 rfl rfl
theorem wX5_run_7 : E_ d mX5_run 7 ls st h = E_ d mX5_run 8 ls (.long 0 :: st) h := e_go dX5_run_7 rfl rfl
theorem wX5_run_8 : E_ d mX5_run 8 ls st h = E_ d mX5_run 11 ls (.long (5) :: st) h := e_go dX5_run_8 rfl rfl
theorem wX5_run_11 : E_ (d + 1) mX5_run 11 ls [.long u3, .long u2, .long u1] h = (C_ d mX5_within [.long u1, .long u2, .long u3] h).bind fun r => E_ (d + 1) mX5_run 14 ls (xpu r.1 []) r.2 := e_call dX5_run_11 rfl rfl
theorem wX5_run_14 : E_ d mX5_run 14 ls (.int x :: st) h = if x = 0 then E_ d mX5_run 17 ls st h else E_ d mX5_run 24 ls st h := e_zne dX5_run_14 rfl rfl
theorem wX5_run_17 : E_ d mX5_run 17 [.val (.ref a), s1, s2] st h = E_ d mX5_run 18 [.val (.ref a), s1, s2] (.ref a :: st) h := e_go dX5_run_17 rfl rfl
theorem wX5_run_18 : E_ d mX5_run 18 ls st h = E_ d mX5_run 20 ls (.int ((-2)) :: st) h := e_bipush dX5_run_18 kbipush_m2 rfl
theorem wX5_run_20 (ht : oT h a = 7) : E_ (d + 1) mX5_run 20 ls [.int x1, .ref a] h = (C_ d mX5_no [.ref a, .int x1] h).bind fun r => E_ (d + 1) mX5_run 23 ls (xpu r.1 []) r.2 := e_vir dX5_run_20 rfl rfl rfl rfl rfl rfl (Nat.le_of_ble_eq_true rfl) (Nat.le_of_ble_eq_true rfl) ht
theorem wX5_run_23 : E_ d mX5_run 23 ls [.int x] h = some (some (.int x), h) := e_rt dX5_run_23 rfl rfl
theorem wX5_run_24 : E_ d mX5_run 24 [.val (.ref a), s1, s2] st h = E_ d mX5_run 25 [.val (.ref a), s1, s2] (.ref a :: st) h := e_go dX5_run_24 rfl rfl
theorem wX5_run_25 : E_ d mX5_run 25 [s0, .val (.int x), s2] st h = E_ d mX5_run 26 [s0, .val (.int x), s2] (.int x :: st) h := e_go dX5_run_25 rfl rfl
theorem wX5_run_26 : E_ d mX5_run 26 ls st h = E_ d mX5_run 28 ls (.int (nI 99) :: st) h := e_bipush dX5_run_26 kbipush_99 rfl
theorem wX5_run_28 (ht : oT h a = 7) : E_ (d + 1) mX5_run 28 ls [.int x2, .int x1, .ref a] h = (C_ d mX5_runs [.ref a, .int x1, .int x2] h).bind fun r => E_ (d + 1) mX5_run 31 ls (xpu r.1 []) r.2 := e_vir dX5_run_28 rfl rfl rfl rfl rfl rfl (Nat.le_of_ble_eq_true rfl) (Nat.le_of_ble_eq_true rfl) ht
theorem wX5_run_31 : E_ d mX5_run 31 [s0, s1, .val (.int x)] st h = E_ d mX5_run 32 [s0, s1, .val (.int x)] (.int x :: st) h := e_go dX5_run_31 rfl rfl
theorem wX5_run_32d (hx : x.toInt < 0 ∨ 4 < x.toInt) : E_ d mX5_run 32 ls (.int x :: st) h = E_ d mX5_run 105 ls st h := e_swO dX5_run_32 rfl hx
theorem wX5_run_32c0 : E_ d mX5_run 32 ls (.int (nI 0) :: st) h = E_ d mX5_run 68 ls st h := e_swI (n := 0) dX5_run_32 (by decide) (by decide) rfl rfl
theorem wX5_run_32c1 : E_ d mX5_run 32 ls (.int (nI 1) :: st) h = E_ d mX5_run 76 ls st h := e_swI (n := 1) dX5_run_32 (by decide) (by decide) rfl rfl
theorem wX5_run_32c2 : E_ d mX5_run 32 ls (.int (nI 2) :: st) h = E_ d mX5_run 84 ls st h := e_swI (n := 2) dX5_run_32 (by decide) (by decide) rfl rfl
theorem wX5_run_32c3 : E_ d mX5_run 32 ls (.int (nI 3) :: st) h = E_ d mX5_run 92 ls st h := e_swI (n := 3) dX5_run_32 (by decide) (by decide) rfl rfl
theorem wX5_run_32c4 : E_ d mX5_run 32 ls (.int (nI 4) :: st) h = E_ d mX5_run 100 ls st h := e_swI (n := 4) dX5_run_32 (by decide) (by decide) rfl rfl
theorem wX5_run_68 : E_ d mX5_run 68 [.val (.ref a), s1, s2] st h = E_ d mX5_run 69 [.val (.ref a), s1, s2] (.ref a :: st) h := e_go dX5_run_68 rfl rfl
theorem wX5_run_69 (ht : oT h a = 7) : E_ d mX5_run 69 ls (.ref a :: st) h = E_ d mX5_run 72 ls (va_rf (oR h a 18) :: st) h := e_getR0 dX5_run_69 rfl rfl ht
theorem wX5_run_72 : E_ d mX5_run 72 ls st h = E_ d mX5_run 74 ls (.int (nI 37) :: st) h := e_bipush dX5_run_72 kbipush_37 rfl
theorem wX5_run_74 (ht : oT h a = 40) (hi : xix x (oN h a) = true) : E_ d mX5_run 74 ls (.int x :: .ref a :: st) h = E_ d mX5_run 75 ls (.int (oI h a x.toNatClampNeg) :: st) h := e_iald dX5_run_74 rfl ht hi
theorem wX5_run_75 : E_ d mX5_run 75 ls [.int x] h = some (some (.int x), h) := e_rt dX5_run_75 rfl rfl
theorem wX5_run_76 : E_ d mX5_run 76 [.val (.ref a), s1, s2] st h = E_ d mX5_run 77 [.val (.ref a), s1, s2] (.ref a :: st) h := e_go dX5_run_76 rfl rfl
theorem wX5_run_77 (ht : oT h a = 7) : E_ d mX5_run 77 ls (.ref a :: st) h = E_ d mX5_run 80 ls (va_rf (oR h a 18) :: st) h := e_getR0 dX5_run_77 rfl rfl ht
theorem wX5_run_80 : E_ d mX5_run 80 ls st h = E_ d mX5_run 82 ls (.int (nI 36) :: st) h := e_bipush dX5_run_80 kbipush_36 rfl
theorem wX5_run_82 (ht : oT h a = 40) (hi : xix x (oN h a) = true) : E_ d mX5_run 82 ls (.int x :: .ref a :: st) h = E_ d mX5_run 83 ls (.int (oI h a x.toNatClampNeg) :: st) h := e_iald dX5_run_82 rfl ht hi
theorem wX5_run_83 : E_ d mX5_run 83 ls [.int x] h = some (some (.int x), h) := e_rt dX5_run_83 rfl rfl
theorem wX5_run_84 : E_ d mX5_run 84 [.val (.ref a), s1, s2] st h = E_ d mX5_run 85 [.val (.ref a), s1, s2] (.ref a :: st) h := e_go dX5_run_84 rfl rfl
theorem wX5_run_85 (ht : oT h a = 7) : E_ d mX5_run 85 ls (.ref a :: st) h = E_ d mX5_run 88 ls (va_rf (oR h a 18) :: st) h := e_getR0 dX5_run_85 rfl rfl ht
theorem wX5_run_88 : E_ d mX5_run 88 ls st h = E_ d mX5_run 90 ls (.int (nI 38) :: st) h := e_bipush dX5_run_88 kbipush_38 rfl
theorem wX5_run_90 (ht : oT h a = 40) (hi : xix x (oN h a) = true) : E_ d mX5_run 90 ls (.int x :: .ref a :: st) h = E_ d mX5_run 91 ls (.int (oI h a x.toNatClampNeg) :: st) h := e_iald dX5_run_90 rfl ht hi
theorem wX5_run_91 : E_ d mX5_run 91 ls [.int x] h = some (some (.int x), h) := e_rt dX5_run_91 rfl rfl
theorem wX5_run_92 : E_ d mX5_run 92 [.val (.ref a), s1, s2] st h = E_ d mX5_run 93 [.val (.ref a), s1, s2] (.ref a :: st) h := e_go dX5_run_92 rfl rfl
theorem wX5_run_93 (ht : oT h a = 7) : E_ d mX5_run 93 ls (.ref a :: st) h = E_ d mX5_run 96 ls (va_rf (oR h a 18) :: st) h := e_getR0 dX5_run_93 rfl rfl ht
theorem wX5_run_96 : E_ d mX5_run 96 ls st h = E_ d mX5_run 98 ls (.int (nI 39) :: st) h := e_bipush dX5_run_96 kbipush_39 rfl
theorem wX5_run_98 (ht : oT h a = 40) (hi : xix x (oN h a) = true) : E_ d mX5_run 98 ls (.int x :: .ref a :: st) h = E_ d mX5_run 99 ls (.int (oI h a x.toNatClampNeg) :: st) h := e_iald dX5_run_98 rfl ht hi
theorem wX5_run_99 : E_ d mX5_run 99 ls [.int x] h = some (some (.int x), h) := e_rt dX5_run_99 rfl rfl
theorem wX5_run_100 : E_ d mX5_run 100 [.val (.ref a), s1, s2] st h = E_ d mX5_run 101 [.val (.ref a), s1, s2] (.ref a :: st) h := e_go dX5_run_100 rfl rfl
theorem wX5_run_101 (ht : oT h a = 7) : E_ (d + 1) mX5_run 101 ls [.ref a] h = (C_ d mX5_stopped [.ref a] h).bind fun r => E_ (d + 1) mX5_run 104 ls (xpu r.1 []) r.2 := e_vir dX5_run_101 rfl rfl rfl rfl rfl rfl (Nat.le_of_ble_eq_true rfl) (Nat.le_of_ble_eq_true rfl) ht
theorem wX5_run_104 : E_ d mX5_run 104 ls [.int x] h = some (some (.int x), h) := e_rt dX5_run_104 rfl rfl
theorem wX5_run_105 : E_ d mX5_run 105 [.val (.ref a), s1, s2] st h = E_ d mX5_run 106 [.val (.ref a), s1, s2] (.ref a :: st) h := e_go dX5_run_105 rfl rfl
theorem wX5_run_106 (ht : oT h a = 7) : E_ d mX5_run 106 ls (.ref a :: st) h = E_ d mX5_run 109 ls (va_rf (oR h a 18) :: st) h := e_getR0 dX5_run_106 rfl rfl ht
theorem wX5_run_109 : E_ d mX5_run 109 ls st h = E_ d mX5_run 111 ls (.int (nI 35) :: st) h := e_bipush dX5_run_109 kbipush_35 rfl
theorem wX5_run_111 (ht : oT h a = 40) (hi : xix x (oN h a) = true) : E_ d mX5_run 111 ls (.int x :: .ref a :: st) h = E_ d mX5_run 112 ls (.int (oI h a x.toNatClampNeg) :: st) h := e_iald dX5_run_111 rfl ht hi
theorem wX5_run_112 : E_ d mX5_run 112 ls [.int x] h = some (some (.int x), h) := e_rt dX5_run_112 rfl rfl
/-! FootOutModel.runs -/
theorem wX5_runs_0 : E_ d mX5_runs 0 [.val (.ref a), s1, s2] st h = E_ d mX5_runs 1 [.val (.ref a), s1, s2] (.ref a :: st) h := e_go dX5_runs_0 rfl rfl
theorem wX5_runs_1 : E_ d mX5_runs 1 [s0, .val (.int x), s2] st h = E_ d mX5_runs 2 [s0, .val (.int x), s2] (.int x :: st) h := e_go dX5_runs_1 rfl rfl
theorem wX5_runs_2 (ht : oT h a = 7) : E_ (d + 1) mX5_runs 2 ls [.int x1, .ref a] h = (C_ d mX5_begins [.ref a, .int x1] h).bind fun r => E_ (d + 1) mX5_runs 5 ls (xpu r.1 []) r.2 := e_vir dX5_runs_2 rfl rfl rfl rfl rfl rfl (Nat.le_of_ble_eq_true rfl) (Nat.le_of_ble_eq_true rfl) ht
theorem wX5_runs_5 : E_ d mX5_runs 5 [.val (.ref a), s1, s2] st h = E_ d mX5_runs 6 [.val (.ref a), s1, s2] (.ref a :: st) h := e_go dX5_runs_5 rfl rfl
theorem wX5_runs_6 (ht : oT h a = 7) : E_ d mX5_runs 6 ls (.ref a :: st) h = E_ d mX5_runs 9 ls (va_rf (oR h a 18) :: st) h := e_getR0 dX5_runs_6 rfl rfl ht
theorem wX5_runs_9 : E_ d mX5_runs 9 ls st h = E_ d mX5_runs 11 ls (.int (nI 37) :: st) h := e_bipush dX5_runs_9 kbipush_37 rfl
theorem wX5_runs_11 (ht : oT h a = 40) (hi : xix x (oN h a) = true) : E_ d mX5_runs 11 ls (.int x :: .ref a :: st) h = E_ d mX5_runs 12 ls (.int (oI h a x.toNatClampNeg) :: st) h := e_iald dX5_runs_11 rfl ht hi
theorem wX5_runs_12 : E_ d mX5_runs 12 ls (.int x :: st) h = if x = 0 then E_ d mX5_runs 15 ls st h else E_ d mX5_runs 39 ls st h := e_zne dX5_runs_12 rfl rfl
theorem wX5_runs_15 : E_ d mX5_runs 15 [.val (.ref a), s1, s2] st h = E_ d mX5_runs 16 [.val (.ref a), s1, s2] (.ref a :: st) h := e_go dX5_runs_15 rfl rfl
theorem wX5_runs_16 (ht : oT h a = 7) : E_ d mX5_runs 16 ls (.ref a :: st) h = E_ d mX5_runs 19 ls (va_rf (oR h a 18) :: st) h := e_getR0 dX5_runs_16 rfl rfl ht
theorem wX5_runs_19 : E_ d mX5_runs 19 ls st h = E_ d mX5_runs 21 ls (.int (nI 36) :: st) h := e_bipush dX5_runs_19 kbipush_36 rfl
theorem wX5_runs_21 (ht : oT h a = 40) (hi : xix x (oN h a) = true) : E_ d mX5_runs 21 ls (.int x :: .ref a :: st) h = E_ d mX5_runs 22 ls (.int (oI h a x.toNatClampNeg) :: st) h := e_iald dX5_runs_21 rfl ht hi
theorem wX5_runs_22 : E_ d mX5_runs 22 [s0, s1, .val (.int x)] st h = E_ d mX5_runs 23 [s0, s1, .val (.int x)] (.int x :: st) h := e_go dX5_runs_22 rfl rfl
theorem wX5_runs_23 : E_ d mX5_runs 23 ls (.int y :: .int x :: st) h = if x < y then E_ d mX5_runs 26 ls st h else E_ d mX5_runs 39 ls st h := e_ige dX5_runs_23 rfl rfl
theorem wX5_runs_26 : E_ d mX5_runs 26 [.val (.ref a), s1, s2] st h = E_ d mX5_runs 27 [.val (.ref a), s1, s2] (.ref a :: st) h := e_go dX5_runs_26 rfl rfl
theorem wX5_runs_27 : E_ d mX5_runs 27 ls st h = E_ d mX5_runs 28 ls (.int (nI 1) :: st) h := e_iconst dX5_runs_27 kiconst_1 rfl
theorem wX5_runs_28 (ht : oT h a = 7) : E_ (d + 1) mX5_runs 28 ls [.int x1, .ref a] h = (C_ d mX5_decides [.ref a, .int x1] h).bind fun r => E_ (d + 1) mX5_runs 31 ls (xpu r.1 []) r.2 := e_vir dX5_runs_28 rfl rfl rfl rfl rfl rfl (Nat.le_of_ble_eq_true rfl) (Nat.le_of_ble_eq_true rfl) ht
theorem wX5_runs_31 : E_ d mX5_runs 31 ls (.int x :: st) h = E_ d mX5_runs 32 ls st h := e_go dX5_runs_31 rfl rfl
theorem wX5_runs_32 : E_ d mX5_runs 32 [.val (.ref a), s1, s2] st h = E_ d mX5_runs 33 [.val (.ref a), s1, s2] (.ref a :: st) h := e_go dX5_runs_32 rfl rfl
theorem wX5_runs_33 (ht : oT h a = 7) : E_ (d + 1) mX5_runs 33 ls [.ref a] h = (C_ d mX5_ticks [.ref a] h).bind fun r => E_ (d + 1) mX5_runs 36 ls (xpu r.1 []) r.2 := e_vir dX5_runs_33 rfl rfl rfl rfl rfl rfl (Nat.le_of_ble_eq_true rfl) (Nat.le_of_ble_eq_true rfl) ht
theorem wX5_runs_36 : E_ d mX5_runs 36 ls st h = E_ d mX5_runs 5 ls st h := e_gt dX5_runs_36 rfl
theorem wX5_runs_39 : E_ d mX5_runs 39 ls [] h = some (none, h) := e_rt dX5_runs_39 rfl rfl
/-! FootOutModel.decides -/
theorem wX5_decides_0 : E_ d mX5_decides 0 [.val (.ref a), s1, s2, s3] st h = E_ d mX5_decides 1 [.val (.ref a), s1, s2, s3] (.ref a :: st) h := e_go dX5_decides_0 rfl rfl
theorem wX5_decides_1 (ht : oT h a = 7) : E_ d mX5_decides 1 ls (.ref a :: st) h = E_ d mX5_decides 4 ls (va_rf (oR h a 18) :: st) h := e_getR0 dX5_decides_1 rfl rfl ht
theorem wX5_decides_4 : E_ d mX5_decides 4 ls st h = E_ d mX5_decides 6 ls (.int (nI 41) :: st) h := e_bipush dX5_decides_4 kbipush_41 rfl
theorem wX5_decides_6 (ht : oT h a = 40) (hi : xix x (oN h a) = true) : E_ d mX5_decides 6 ls (.int x :: .ref a :: st) h = E_ d mX5_decides 7 ls (.int (oI h a x.toNatClampNeg) :: st) h := e_iald dX5_decides_6 rfl ht hi
theorem wX5_decides_7 : E_ d mX5_decides 7 [.val (.ref a), s1, s2, s3] st h = E_ d mX5_decides 8 [.val (.ref a), s1, s2, s3] (.ref a :: st) h := e_go dX5_decides_7 rfl rfl
theorem wX5_decides_8 (ht : oT h a = 7) : E_ d mX5_decides 8 ls (.ref a :: st) h = E_ d mX5_decides 11 ls (va_rf (oR h a 2) :: st) h := e_getR0 dX5_decides_8 rfl rfl ht
theorem wX5_decides_11 : E_ d mX5_decides 11 ls st h = E_ d mX5_decides 12 ls (.int (nI 1) :: st) h := e_iconst dX5_decides_11 kiconst_1 rfl
theorem wX5_decides_12 (ht : oT h a = 40) (hi : xix x (oN h a) = true) : E_ d mX5_decides 12 ls (.int x :: .ref a :: st) h = E_ d mX5_decides 13 ls (.int (oI h a x.toNatClampNeg) :: st) h := e_iald dX5_decides_12 rfl ht hi
theorem wX5_decides_13 : E_ d mX5_decides 13 ls (.int y :: .int x :: st) h = if x < y then E_ d mX5_decides 16 ls st h else E_ d mX5_decides 186 ls st h := e_ige dX5_decides_13 rfl rfl
theorem wX5_decides_16 : E_ d mX5_decides 16 [.val (.ref a), s1, s2, s3] st h = E_ d mX5_decides 17 [.val (.ref a), s1, s2, s3] (.ref a :: st) h := e_go dX5_decides_16 rfl rfl
theorem wX5_decides_17 (ht : oT h a = 7) : E_ d mX5_decides 17 ls (.ref a :: st) h = E_ d mX5_decides 20 ls (va_rf (oR h a 18) :: st) h := e_getR0 dX5_decides_17 rfl rfl ht
theorem wX5_decides_20 : E_ d mX5_decides 20 ls st h = E_ d mX5_decides 22 ls (.int (nI 41) :: st) h := e_bipush dX5_decides_20 kbipush_41 rfl
theorem wX5_decides_22 (ht : oT h a = 40) (hi : xix x (oN h a) = true) : E_ d mX5_decides 22 ls (.int x :: .ref a :: st) h = E_ d mX5_decides 23 ls (.int (oI h a x.toNatClampNeg) :: st) h := e_iald dX5_decides_22 rfl ht hi
theorem wX5_decides_23 : E_ d mX5_decides 23 [s0, s1, s2, s3] (.int x :: st) h = E_ d mX5_decides 24 [s0, xk s1, .val (.int x), s3] st h := e_go dX5_decides_23 rfl rfl
theorem wX5_decides_24 : E_ d mX5_decides 24 [.val (.ref a), s1, s2, s3] st h = E_ d mX5_decides 25 [.val (.ref a), s1, s2, s3] (.ref a :: st) h := e_go dX5_decides_24 rfl rfl
theorem wX5_decides_25 (ht : oT h a = 7) : E_ d mX5_decides 25 ls (.ref a :: st) h = E_ d mX5_decides 28 ls (va_rf (oR h a 18) :: st) h := e_getR0 dX5_decides_25 rfl rfl ht
theorem wX5_decides_28 : E_ d mX5_decides 28 ls st h = E_ d mX5_decides 30 ls (.int (nI 16) :: st) h := e_bipush dX5_decides_28 kbipush_16 rfl
theorem wX5_decides_30 : E_ d mX5_decides 30 [s0, s1, .val (.int x), s3] st h = E_ d mX5_decides 31 [s0, s1, .val (.int x), s3] (.int x :: st) h := e_go dX5_decides_30 rfl rfl
theorem wX5_decides_31 : E_ d mX5_decides 31 ls (.int y :: .int x :: st) h = E_ d mX5_decides 32 ls (.int (x + y) :: st) h := e_go dX5_decides_31 rfl rfl
theorem wX5_decides_32 (ht : oT h a = 40) (hi : xix x (oN h a) = true) : E_ d mX5_decides 32 ls (.int x :: .ref a :: st) h = E_ d mX5_decides 33 ls (.int (oI h a x.toNatClampNeg) :: st) h := e_iald dX5_decides_32 rfl ht hi
theorem wX5_decides_33 : E_ d mX5_decides 33 ls (.int x :: st) h = if x = 0 then E_ d mX5_decides 36 ls st h else E_ d mX5_decides 172 ls st h := e_zne dX5_decides_33 rfl rfl
theorem wX5_decides_36 : E_ d mX5_decides 36 [.val (.ref a), s1, s2, s3] st h = E_ d mX5_decides 37 [.val (.ref a), s1, s2, s3] (.ref a :: st) h := e_go dX5_decides_36 rfl rfl
theorem wX5_decides_37 (ht : oT h a = 7) : E_ d mX5_decides 37 ls (.ref a :: st) h = E_ d mX5_decides 40 ls (va_rf (oR h a 18) :: st) h := e_getR0 dX5_decides_37 rfl rfl ht
theorem wX5_decides_40 : E_ d mX5_decides 40 ls st h = E_ d mX5_decides 41 ls (.int (nI 0) :: st) h := e_iconst dX5_decides_40 kiconst_0 rfl
theorem wX5_decides_41 : E_ d mX5_decides 41 [s0, s1, .val (.int x), s3] st h = E_ d mX5_decides 42 [s0, s1, .val (.int x), s3] (.int x :: st) h := e_go dX5_decides_41 rfl rfl
theorem wX5_decides_42 : E_ d mX5_decides 42 ls (.int y :: .int x :: st) h = E_ d mX5_decides 43 ls (.int (x + y) :: st) h := e_go dX5_decides_42 rfl rfl
theorem wX5_decides_43 (ht : oT h a = 40) (hi : xix x (oN h a) = true) : E_ d mX5_decides 43 ls (.int x :: .ref a :: st) h = E_ d mX5_decides 44 ls (.int (oI h a x.toNatClampNeg) :: st) h := e_iald dX5_decides_43 rfl ht hi
theorem wX5_decides_44 : E_ d mX5_decides 44 ls (.int x :: st) h = E_ d mX5_decides 45 ls (.long x.toInt64 :: st) h := e_go dX5_decides_44 rfl rfl
theorem wX5_decides_45 : E_ d mX5_decides 45 ls st h = E_ d mX5_decides 46 ls (.long 1 :: st) h := e_go dX5_decides_45 rfl rfl
theorem wX5_decides_46 : E_ d mX5_decides 46 [.val (.ref a), s1, s2, s3] st h = E_ d mX5_decides 47 [.val (.ref a), s1, s2, s3] (.ref a :: st) h := e_go dX5_decides_46 rfl rfl
theorem wX5_decides_47 (ht : oT h a = 7) : E_ d mX5_decides 47 ls (.ref a :: st) h = E_ d mX5_decides 50 ls (va_rf (oR h a 2) :: st) h := e_getR0 dX5_decides_47 rfl rfl ht
theorem wX5_decides_50 : E_ d mX5_decides 50 ls st h = E_ d mX5_decides 52 ls (.int (nI 38) :: st) h := e_bipush dX5_decides_50 kbipush_38 rfl
theorem wX5_decides_52 (ht : oT h a = 40) (hi : xix x (oN h a) = true) : E_ d mX5_decides 52 ls (.int x :: .ref a :: st) h = E_ d mX5_decides 53 ls (.int (oI h a x.toNatClampNeg) :: st) h := e_iald dX5_decides_52 rfl ht hi
theorem wX5_decides_53 : E_ d mX5_decides 53 ls (.int x :: st) h = E_ d mX5_decides 54 ls (.long x.toInt64 :: st) h := e_go dX5_decides_53 rfl rfl
theorem wX5_decides_54 : E_ (d + 1) mX5_decides 54 ls [.long u3, .long u2, .long u1] h = (C_ d mX5_within [.long u1, .long u2, .long u3] h).bind fun r => E_ (d + 1) mX5_decides 57 ls (xpu r.1 []) r.2 := e_call dX5_decides_54 rfl rfl
theorem wX5_decides_57 : E_ d mX5_decides 57 ls (.int x :: st) h = if x = 0 then E_ d mX5_decides 172 ls st h else E_ d mX5_decides 60 ls st h := e_zeq dX5_decides_57 rfl rfl
theorem wX5_decides_60 : E_ d mX5_decides 60 [.val (.ref a), s1, s2, s3] st h = E_ d mX5_decides 61 [.val (.ref a), s1, s2, s3] (.ref a :: st) h := e_go dX5_decides_60 rfl rfl
theorem wX5_decides_61 : E_ d mX5_decides 61 [s0, s1, .val (.int x), s3] st h = E_ d mX5_decides 62 [s0, s1, .val (.int x), s3] (.int x :: st) h := e_go dX5_decides_61 rfl rfl
theorem wX5_decides_62 (ht : oT h a = 7) : E_ (d + 1) mX5_decides 62 ls [.int x1, .ref a] h = (C_ d mX5_canStop [.ref a, .int x1] h).bind fun r => E_ (d + 1) mX5_decides 65 ls (xpu r.1 []) r.2 := e_vir dX5_decides_62 rfl rfl rfl rfl rfl rfl (Nat.le_of_ble_eq_true rfl) (Nat.le_of_ble_eq_true rfl) ht
theorem wX5_decides_65 : E_ d mX5_decides 65 ls (.int x :: st) h = if x = 0 then E_ d mX5_decides 76 ls st h else E_ d mX5_decides 68 ls st h := e_zeq dX5_decides_65 rfl rfl
theorem wX5_decides_68 : E_ d mX5_decides 68 [.val (.ref a), s1, s2, s3] st h = E_ d mX5_decides 69 [.val (.ref a), s1, s2, s3] (.ref a :: st) h := e_go dX5_decides_68 rfl rfl
theorem wX5_decides_69 : E_ d mX5_decides 69 [s0, s1, .val (.int x), s3] st h = E_ d mX5_decides 70 [s0, s1, .val (.int x), s3] (.int x :: st) h := e_go dX5_decides_69 rfl rfl
theorem wX5_decides_70 (ht : oT h a = 7) : E_ (d + 1) mX5_decides 70 ls [.int x1, .ref a] h = (C_ d mX5_stopsBy [.ref a, .int x1] h).bind fun r => E_ (d + 1) mX5_decides 73 ls (xpu r.1 []) r.2 := e_vir dX5_decides_70 rfl rfl rfl rfl rfl rfl (Nat.le_of_ble_eq_true rfl) (Nat.le_of_ble_eq_true rfl) ht
theorem wX5_decides_73 : E_ d mX5_decides 73 ls st h = E_ d mX5_decides 77 ls st h := e_gt dX5_decides_73 rfl
theorem wX5_decides_76 : E_ d mX5_decides 76 ls st h = E_ d mX5_decides 77 ls (.int (nI 0) :: st) h := e_iconst dX5_decides_76 kiconst_0 rfl
theorem wX5_decides_77 : E_ d mX5_decides 77 [s0, s1, s2, s3] (.int x :: st) h = E_ d mX5_decides 78 [s0, s1, xk s2, .val (.int x)] st h := e_go dX5_decides_77 rfl rfl
theorem wX5_decides_78 : E_ d mX5_decides 78 [s0, s1, s2, .val (.int x)] st h = E_ d mX5_decides 79 [s0, s1, s2, .val (.int x)] (.int x :: st) h := e_go dX5_decides_78 rfl rfl
theorem wX5_decides_79 : E_ d mX5_decides 79 ls (.int x :: st) h = if x = 0 then E_ d mX5_decides 88 ls st h else E_ d mX5_decides 82 ls st h := e_zeq dX5_decides_79 rfl rfl
theorem wX5_decides_82 : E_ d mX5_decides 82 [s0, s1, s2, .val (.int x)] st h = E_ d mX5_decides 83 [s0, s1, s2, .val (.int x)] (.int x :: st) h := e_go dX5_decides_82 rfl rfl
theorem wX5_decides_83 : E_ d mX5_decides 83 ls st h = E_ d mX5_decides 85 ls (.int (nI 100) :: st) h := e_bipush dX5_decides_83 kbipush_100 rfl
theorem wX5_decides_85 : E_ d mX5_decides 85 ls (.int y :: .int x :: st) h = if x = y then E_ d mX5_decides 88 ls st h else E_ d mX5_decides 109 ls st h := e_ine dX5_decides_85 rfl rfl
theorem wX5_decides_88 : E_ d mX5_decides 88 [.val (.ref a), s1, s2, s3] st h = E_ d mX5_decides 89 [.val (.ref a), s1, s2, s3] (.ref a :: st) h := e_go dX5_decides_88 rfl rfl
theorem wX5_decides_89 (ht : oT h a = 7) : E_ d mX5_decides 89 ls (.ref a :: st) h = E_ d mX5_decides 92 ls (va_rf (oR h a 18) :: st) h := e_getR0 dX5_decides_89 rfl rfl ht
theorem wX5_decides_92 : E_ d mX5_decides 92 ls st h = E_ d mX5_decides 94 ls (.int (nI 16) :: st) h := e_bipush dX5_decides_92 kbipush_16 rfl
theorem wX5_decides_94 : E_ d mX5_decides 94 [s0, s1, .val (.int x), s3] st h = E_ d mX5_decides 95 [s0, s1, .val (.int x), s3] (.int x :: st) h := e_go dX5_decides_94 rfl rfl
theorem wX5_decides_95 : E_ d mX5_decides 95 ls (.int y :: .int x :: st) h = E_ d mX5_decides 96 ls (.int (x + y) :: st) h := e_go dX5_decides_95 rfl rfl
theorem wX5_decides_96 : E_ d mX5_decides 96 [s0, s1, s2, .val (.int x)] st h = E_ d mX5_decides 97 [s0, s1, s2, .val (.int x)] (.int x :: st) h := e_go dX5_decides_96 rfl rfl
theorem wX5_decides_97 : E_ d mX5_decides 97 ls (.int x :: st) h = if x = 0 then E_ d mX5_decides 100 ls st h else E_ d mX5_decides 104 ls st h := e_zne dX5_decides_97 rfl rfl
theorem wX5_decides_100 : E_ d mX5_decides 100 ls st h = E_ d mX5_decides 101 ls (.int (nI 1) :: st) h := e_iconst dX5_decides_100 kiconst_1 rfl
theorem wX5_decides_101 : E_ d mX5_decides 101 ls st h = E_ d mX5_decides 105 ls st h := e_gt dX5_decides_101 rfl
theorem wX5_decides_104 : E_ d mX5_decides 104 ls st h = E_ d mX5_decides 105 ls (.int (nI 2) :: st) h := e_iconst dX5_decides_104 kiconst_2 rfl
theorem wX5_decides_105 (ht : oT h a = 40) (hi : xix x (oN h a) = true) : E_ d mX5_decides 105 ls (.int y :: .int x :: .ref a :: st) h = E_ d mX5_decides 106 ls st (pI h a (va_up (oI h a) x.toNatClampNeg y)) := e_iast dX5_decides_105 rfl ht hi
theorem wX5_decides_106 : E_ d mX5_decides 106 ls st h = E_ d mX5_decides 172 ls st h := e_gt dX5_decides_106 rfl
theorem wX5_decides_109 : E_ d mX5_decides 109 [s0, .val (.int x), s2, s3] st h = E_ d mX5_decides 110 [s0, .val (.int x), s2, s3] (.int x :: st) h := e_go dX5_decides_109 rfl rfl
theorem wX5_decides_110 : E_ d mX5_decides 110 ls (.int x :: st) h = if x = 0 then E_ d mX5_decides 113 ls st h else E_ d mX5_decides 120 ls st h := e_zne dX5_decides_110 rfl rfl
theorem wX5_decides_113 : E_ d mX5_decides 113 [.val (.ref a), s1, s2, s3] st h = E_ d mX5_decides 114 [.val (.ref a), s1, s2, s3] (.ref a :: st) h := e_go dX5_decides_113 rfl rfl
theorem wX5_decides_114 : E_ d mX5_decides 114 [s0, s1, s2, .val (.int x)] st h = E_ d mX5_decides 115 [s0, s1, s2, .val (.int x)] (.int x :: st) h := e_go dX5_decides_114 rfl rfl
theorem wX5_decides_115 (ht : oT h a = 7) : E_ d mX5_decides 115 ls (.int x :: .ref a :: st) h = E_ d mX5_decides 118 ls st (pI h a (va_up (oI h a) 23 x)) := e_putI dX5_decides_115 rfl rfl ht
theorem wX5_decides_118 : E_ d mX5_decides 118 [s0, s1, .val (.int x), s3] st h = E_ d mX5_decides 119 [s0, s1, .val (.int x), s3] (.int x :: st) h := e_go dX5_decides_118 rfl rfl
theorem wX5_decides_119 : E_ d mX5_decides 119 ls [.int x] h = some (some (.int x), h) := e_rt dX5_decides_119 rfl rfl
theorem wX5_decides_120 : E_ d mX5_decides 120 [.val (.ref a), s1, s2, s3] st h = E_ d mX5_decides 121 [.val (.ref a), s1, s2, s3] (.ref a :: st) h := e_go dX5_decides_120 rfl rfl
theorem wX5_decides_121 (ht : oT h a = 7) : E_ d mX5_decides 121 ls (.ref a :: st) h = E_ d mX5_decides 124 ls (va_rf (oR h a 18) :: st) h := e_getR0 dX5_decides_121 rfl rfl ht
theorem wX5_decides_124 : E_ d mX5_decides 124 ls st h = E_ d mX5_decides 126 ls (.int (nI 40) :: st) h := e_bipush dX5_decides_124 kbipush_40 rfl
theorem wX5_decides_126 : E_ d mX5_decides 126 ls st h = E_ d mX5_decides 128 ls (.int (nI 1103515245) :: st) h := e_go dX5_decides_126 rfl rfl
theorem wX5_decides_128 : E_ d mX5_decides 128 [.val (.ref a), s1, s2, s3] st h = E_ d mX5_decides 129 [.val (.ref a), s1, s2, s3] (.ref a :: st) h := e_go dX5_decides_128 rfl rfl
theorem wX5_decides_129 (ht : oT h a = 7) : E_ d mX5_decides 129 ls (.ref a :: st) h = E_ d mX5_decides 132 ls (va_rf (oR h a 18) :: st) h := e_getR0 dX5_decides_129 rfl rfl ht
theorem wX5_decides_132 : E_ d mX5_decides 132 ls st h = E_ d mX5_decides 134 ls (.int (nI 40) :: st) h := e_bipush dX5_decides_132 kbipush_40 rfl
theorem wX5_decides_134 (ht : oT h a = 40) (hi : xix x (oN h a) = true) : E_ d mX5_decides 134 ls (.int x :: .ref a :: st) h = E_ d mX5_decides 135 ls (.int (oI h a x.toNatClampNeg) :: st) h := e_iald dX5_decides_134 rfl ht hi
theorem wX5_decides_135 : E_ d mX5_decides 135 ls (.int y :: .int x :: st) h = E_ d mX5_decides 136 ls (.int (x * y) :: st) h := e_go dX5_decides_135 rfl rfl
theorem wX5_decides_136 : E_ d mX5_decides 136 ls st h = E_ d mX5_decides 139 ls (.int (nI 12345) :: st) h := e_sipush dX5_decides_136 ksipush_12345 rfl
theorem wX5_decides_139 : E_ d mX5_decides 139 ls (.int y :: .int x :: st) h = E_ d mX5_decides 140 ls (.int (x + y) :: st) h := e_go dX5_decides_139 rfl rfl
theorem wX5_decides_140 (ht : oT h a = 40) (hi : xix x (oN h a) = true) : E_ d mX5_decides 140 ls (.int y :: .int x :: .ref a :: st) h = E_ d mX5_decides 141 ls st (pI h a (va_up (oI h a) x.toNatClampNeg y)) := e_iast dX5_decides_140 rfl ht hi
theorem wX5_decides_141 : E_ d mX5_decides 141 [.val (.ref a), s1, s2, s3] st h = E_ d mX5_decides 142 [.val (.ref a), s1, s2, s3] (.ref a :: st) h := e_go dX5_decides_141 rfl rfl
theorem wX5_decides_142 (ht : oT h a = 7) : E_ d mX5_decides 142 ls (.ref a :: st) h = E_ d mX5_decides 145 ls (va_rf (oR h a 18) :: st) h := e_getR0 dX5_decides_142 rfl rfl ht
theorem wX5_decides_145 : E_ d mX5_decides 145 ls st h = E_ d mX5_decides 147 ls (.int (nI 16) :: st) h := e_bipush dX5_decides_145 kbipush_16 rfl
theorem wX5_decides_147 : E_ d mX5_decides 147 [s0, s1, .val (.int x), s3] st h = E_ d mX5_decides 148 [s0, s1, .val (.int x), s3] (.int x :: st) h := e_go dX5_decides_147 rfl rfl
theorem wX5_decides_148 : E_ d mX5_decides 148 ls (.int y :: .int x :: st) h = E_ d mX5_decides 149 ls (.int (x + y) :: st) h := e_go dX5_decides_148 rfl rfl
theorem wX5_decides_149 : E_ d mX5_decides 149 [.val (.ref a), s1, s2, s3] st h = E_ d mX5_decides 150 [.val (.ref a), s1, s2, s3] (.ref a :: st) h := e_go dX5_decides_149 rfl rfl
theorem wX5_decides_150 (ht : oT h a = 7) : E_ d mX5_decides 150 ls (.ref a :: st) h = E_ d mX5_decides 153 ls (va_rf (oR h a 18) :: st) h := e_getR0 dX5_decides_150 rfl rfl ht
theorem wX5_decides_153 : E_ d mX5_decides 153 ls st h = E_ d mX5_decides 155 ls (.int (nI 40) :: st) h := e_bipush dX5_decides_153 kbipush_40 rfl
theorem wX5_decides_155 (ht : oT h a = 40) (hi : xix x (oN h a) = true) : E_ d mX5_decides 155 ls (.int x :: .ref a :: st) h = E_ d mX5_decides 156 ls (.int (oI h a x.toNatClampNeg) :: st) h := e_iald dX5_decides_155 rfl ht hi
theorem wX5_decides_156 : E_ d mX5_decides 156 ls st h = E_ d mX5_decides 158 ls (.int (nI 16) :: st) h := e_bipush dX5_decides_156 kbipush_16 rfl
theorem wX5_decides_158 : E_ d mX5_decides 158 ls (.int y :: .int x :: st) h = E_ d mX5_decides 159 ls (.int ((x.toUInt32 >>> (y.toUInt32 &&& Int32.toUInt32 31)).toInt32) :: st) h := e_go dX5_decides_158 rfl rfl
theorem wX5_decides_159 : E_ d mX5_decides 159 ls st h = E_ d mX5_decides 161 ls (.int (nI 100) :: st) h := e_bipush dX5_decides_159 kbipush_100 rfl
theorem wX5_decides_161 (hy : ¬ y = 0) : E_ d mX5_decides 161 ls (.int y :: .int x :: st) h = E_ d mX5_decides 162 ls (.int (x - x / y * y) :: st) h := e_rem dX5_decides_161 rfl hy
theorem wX5_decides_162 : E_ d mX5_decides 162 [s0, s1, s2, .val (.int x)] st h = E_ d mX5_decides 163 [s0, s1, s2, .val (.int x)] (.int x :: st) h := e_go dX5_decides_162 rfl rfl
theorem wX5_decides_163 : E_ d mX5_decides 163 ls (.int y :: .int x :: st) h = if x < y then E_ d mX5_decides 166 ls st h else E_ d mX5_decides 170 ls st h := e_ige dX5_decides_163 rfl rfl
theorem wX5_decides_166 : E_ d mX5_decides 166 ls st h = E_ d mX5_decides 167 ls (.int (nI 2) :: st) h := e_iconst dX5_decides_166 kiconst_2 rfl
theorem wX5_decides_167 : E_ d mX5_decides 167 ls st h = E_ d mX5_decides 171 ls st h := e_gt dX5_decides_167 rfl
theorem wX5_decides_170 : E_ d mX5_decides 170 ls st h = E_ d mX5_decides 171 ls (.int (nI 1) :: st) h := e_iconst dX5_decides_170 kiconst_1 rfl
theorem wX5_decides_171 (ht : oT h a = 40) (hi : xix x (oN h a) = true) : E_ d mX5_decides 171 ls (.int y :: .int x :: .ref a :: st) h = E_ d mX5_decides 172 ls st (pI h a (va_up (oI h a) x.toNatClampNeg y)) := e_iast dX5_decides_171 rfl ht hi
theorem wX5_decides_172 : E_ d mX5_decides 172 [.val (.ref a), s1, s2, s3] st h = E_ d mX5_decides 173 [.val (.ref a), s1, s2, s3] (.ref a :: st) h := e_go dX5_decides_172 rfl rfl
theorem wX5_decides_173 (ht : oT h a = 7) : E_ d mX5_decides 173 ls (.ref a :: st) h = E_ d mX5_decides 176 ls (va_rf (oR h a 18) :: st) h := e_getR0 dX5_decides_173 rfl rfl ht
theorem wX5_decides_176 : E_ d mX5_decides 176 ls st h = E_ d mX5_decides 178 ls (.int (nI 41) :: st) h := e_bipush dX5_decides_176 kbipush_41 rfl
theorem wX5_decides_178 : E_ d mX5_decides 178 ls (.int x :: .ref b :: st) h = E_ d mX5_decides 179 ls (.int x :: .ref b :: .int x :: .ref b :: st) h := e_go dX5_decides_178 rfl rfl
theorem wX5_decides_179 (ht : oT h a = 40) (hi : xix x (oN h a) = true) : E_ d mX5_decides 179 ls (.int x :: .ref a :: st) h = E_ d mX5_decides 180 ls (.int (oI h a x.toNatClampNeg) :: st) h := e_iald dX5_decides_179 rfl ht hi
theorem wX5_decides_180 : E_ d mX5_decides 180 ls st h = E_ d mX5_decides 181 ls (.int (nI 1) :: st) h := e_iconst dX5_decides_180 kiconst_1 rfl
theorem wX5_decides_181 : E_ d mX5_decides 181 ls (.int y :: .int x :: st) h = E_ d mX5_decides 182 ls (.int (x + y) :: st) h := e_go dX5_decides_181 rfl rfl
theorem wX5_decides_182 (ht : oT h a = 40) (hi : xix x (oN h a) = true) : E_ d mX5_decides 182 ls (.int y :: .int x :: .ref a :: st) h = E_ d mX5_decides 183 ls st (pI h a (va_up (oI h a) x.toNatClampNeg y)) := e_iast dX5_decides_182 rfl ht hi
theorem wX5_decides_183 : E_ d mX5_decides 183 ls st h = E_ d mX5_decides 0 ls st h := e_gt dX5_decides_183 rfl
theorem wX5_decides_186 : E_ d mX5_decides 186 ls st h = E_ d mX5_decides 187 ls (.int ((-1)) :: st) h := e_iconst dX5_decides_186 kiconst_m1 rfl
theorem wX5_decides_187 : E_ d mX5_decides 187 ls [.int x] h = some (some (.int x), h) := e_rt dX5_decides_187 rfl rfl
/-! FootOutModel.ticks -/
theorem wX5_ticks_0 : E_ d mX5_ticks 0 [.val (.ref a)] st h = E_ d mX5_ticks 1 [.val (.ref a)] (.ref a :: st) h := e_go dX5_ticks_0 rfl rfl
theorem wX5_ticks_1 (ht : oT h a = 7) : E_ d mX5_ticks 1 ls (.ref a :: st) h = E_ d mX5_ticks 4 ls (va_rf (oR h a 18) :: st) h := e_getR0 dX5_ticks_1 rfl rfl ht
theorem wX5_ticks_4 : E_ d mX5_ticks 4 ls st h = E_ d mX5_ticks 6 ls (.int (nI 33) :: st) h := e_bipush dX5_ticks_4 kbipush_33 rfl
theorem wX5_ticks_6 (ht : oT h a = 40) (hi : xix x (oN h a) = true) : E_ d mX5_ticks 6 ls (.int x :: .ref a :: st) h = E_ d mX5_ticks 7 ls (.int (oI h a x.toNatClampNeg) :: st) h := e_iald dX5_ticks_6 rfl ht hi
theorem wX5_ticks_7 : E_ d mX5_ticks 7 ls (.int x :: st) h = if x = 0 then E_ d mX5_ticks 10 ls st h else E_ d mX5_ticks 67 ls st h := e_zne dX5_ticks_7 rfl rfl
theorem wX5_ticks_10 : E_ d mX5_ticks 10 [.val (.ref a)] st h = E_ d mX5_ticks 11 [.val (.ref a)] (.ref a :: st) h := e_go dX5_ticks_10 rfl rfl
theorem wX5_ticks_11 : E_ d mX5_ticks 11 [.val (.ref a)] st h = E_ d mX5_ticks 12 [.val (.ref a)] (.ref a :: st) h := e_go dX5_ticks_11 rfl rfl
theorem wX5_ticks_12 (ht : oT h a = 7) : E_ d mX5_ticks 12 ls (.ref a :: st) h = E_ d mX5_ticks 15 ls (va_rf (oR h a 18) :: st) h := e_getR0 dX5_ticks_12 rfl rfl ht
theorem wX5_ticks_15 : E_ d mX5_ticks 15 ls st h = E_ d mX5_ticks 17 ls (.int (nI 32) :: st) h := e_bipush dX5_ticks_15 kbipush_32 rfl
theorem wX5_ticks_17 (ht : oT h a = 40) (hi : xix x (oN h a) = true) : E_ d mX5_ticks 17 ls (.int x :: .ref a :: st) h = E_ d mX5_ticks 18 ls (.int (oI h a x.toNatClampNeg) :: st) h := e_iald dX5_ticks_17 rfl ht hi
theorem wX5_ticks_18 (ht : oT h a = 7) : E_ (d + 1) mX5_ticks 18 ls [.int x1, .ref a] h = (C_ d mX5_isFree [.ref a, .int x1] h).bind fun r => E_ (d + 1) mX5_ticks 21 ls (xpu r.1 []) r.2 := e_vir dX5_ticks_18 rfl rfl rfl rfl rfl rfl (Nat.le_of_ble_eq_true rfl) (Nat.le_of_ble_eq_true rfl) ht
theorem wX5_ticks_21 : E_ d mX5_ticks 21 ls (.int x :: st) h = if x = 0 then E_ d mX5_ticks 24 ls st h else E_ d mX5_ticks 51 ls st h := e_zne dX5_ticks_21 rfl rfl
theorem wX5_ticks_24 : E_ d mX5_ticks 24 [.val (.ref a)] st h = E_ d mX5_ticks 25 [.val (.ref a)] (.ref a :: st) h := e_go dX5_ticks_24 rfl rfl
theorem wX5_ticks_25 (ht : oT h a = 7) : E_ d mX5_ticks 25 ls (.ref a :: st) h = E_ d mX5_ticks 28 ls (va_rf (oR h a 18) :: st) h := e_getR0 dX5_ticks_25 rfl rfl ht
theorem wX5_ticks_28 : E_ d mX5_ticks 28 ls st h = E_ d mX5_ticks 30 ls (.int (nI 32) :: st) h := e_bipush dX5_ticks_28 kbipush_32 rfl
theorem wX5_ticks_30 (ht : oT h a = 40) (hi : xix x (oN h a) = true) : E_ d mX5_ticks 30 ls (.int x :: .ref a :: st) h = E_ d mX5_ticks 31 ls (.int (oI h a x.toNatClampNeg) :: st) h := e_iald dX5_ticks_30 rfl ht hi
theorem wX5_ticks_31 : E_ d mX5_ticks 31 ls (.int x :: st) h = if x = 0 then E_ d mX5_ticks 34 ls st h else E_ d mX5_ticks 67 ls st h := e_zne dX5_ticks_31 rfl rfl
theorem wX5_ticks_34 : E_ d mX5_ticks 34 [.val (.ref a)] st h = E_ d mX5_ticks 35 [.val (.ref a)] (.ref a :: st) h := e_go dX5_ticks_34 rfl rfl
theorem wX5_ticks_35 (ht : oT h a = 7) : E_ d mX5_ticks 35 ls (.ref a :: st) h = E_ d mX5_ticks 38 ls (va_rf (oR h a 18) :: st) h := e_getR0 dX5_ticks_35 rfl rfl ht
theorem wX5_ticks_38 : E_ d mX5_ticks 38 ls st h = E_ d mX5_ticks 40 ls (.int (nI 35) :: st) h := e_bipush dX5_ticks_38 kbipush_35 rfl
theorem wX5_ticks_40 (ht : oT h a = 40) (hi : xix x (oN h a) = true) : E_ d mX5_ticks 40 ls (.int x :: .ref a :: st) h = E_ d mX5_ticks 41 ls (.int (oI h a x.toNatClampNeg) :: st) h := e_iald dX5_ticks_40 rfl ht hi
theorem wX5_ticks_41 : E_ d mX5_ticks 41 [.val (.ref a)] st h = E_ d mX5_ticks 42 [.val (.ref a)] (.ref a :: st) h := e_go dX5_ticks_41 rfl rfl
theorem wX5_ticks_42 (ht : oT h a = 7) : E_ d mX5_ticks 42 ls (.ref a :: st) h = E_ d mX5_ticks 45 ls (va_rf (oR h a 2) :: st) h := e_getR0 dX5_ticks_42 rfl rfl ht
theorem wX5_ticks_45 : E_ d mX5_ticks 45 ls st h = E_ d mX5_ticks 47 ls (.int (nI 37) :: st) h := e_bipush dX5_ticks_45 kbipush_37 rfl
theorem wX5_ticks_47 (ht : oT h a = 40) (hi : xix x (oN h a) = true) : E_ d mX5_ticks 47 ls (.int x :: .ref a :: st) h = E_ d mX5_ticks 48 ls (.int (oI h a x.toNatClampNeg) :: st) h := e_iald dX5_ticks_47 rfl ht hi
theorem wX5_ticks_48 : E_ d mX5_ticks 48 ls (.int y :: .int x :: st) h = if x < y then E_ d mX5_ticks 67 ls st h else E_ d mX5_ticks 51 ls st h := e_ilt dX5_ticks_48 rfl rfl
theorem wX5_ticks_51 : E_ d mX5_ticks 51 [.val (.ref a)] st h = E_ d mX5_ticks 52 [.val (.ref a)] (.ref a :: st) h := e_go dX5_ticks_51 rfl rfl
theorem wX5_ticks_52 (ht : oT h a = 7) : E_ d mX5_ticks 52 ls (.ref a :: st) h = E_ d mX5_ticks 55 ls (va_rf (oR h a 18) :: st) h := e_getR0 dX5_ticks_52 rfl rfl ht
theorem wX5_ticks_55 : E_ d mX5_ticks 55 ls st h = E_ d mX5_ticks 57 ls (.int (nI 33) :: st) h := e_bipush dX5_ticks_55 kbipush_33 rfl
theorem wX5_ticks_57 : E_ d mX5_ticks 57 ls st h = E_ d mX5_ticks 58 ls (.int (nI 1) :: st) h := e_iconst dX5_ticks_57 kiconst_1 rfl
theorem wX5_ticks_58 (ht : oT h a = 40) (hi : xix x (oN h a) = true) : E_ d mX5_ticks 58 ls (.int y :: .int x :: .ref a :: st) h = E_ d mX5_ticks 59 ls st (pI h a (va_up (oI h a) x.toNatClampNeg y)) := e_iast dX5_ticks_58 rfl ht hi
theorem wX5_ticks_59 : E_ d mX5_ticks 59 [.val (.ref a)] st h = E_ d mX5_ticks 60 [.val (.ref a)] (.ref a :: st) h := e_go dX5_ticks_59 rfl rfl
theorem wX5_ticks_60 (ht : oT h a = 7) : E_ d mX5_ticks 60 ls (.ref a :: st) h = E_ d mX5_ticks 63 ls (va_rf (oR h a 18) :: st) h := e_getR0 dX5_ticks_60 rfl rfl ht
theorem wX5_ticks_63 : E_ d mX5_ticks 63 ls st h = E_ d mX5_ticks 65 ls (.int (nI 34) :: st) h := e_bipush dX5_ticks_63 kbipush_34 rfl
theorem wX5_ticks_65 : E_ d mX5_ticks 65 ls st h = E_ d mX5_ticks 66 ls (.int (nI 0) :: st) h := e_iconst dX5_ticks_65 kiconst_0 rfl
theorem wX5_ticks_66 (ht : oT h a = 40) (hi : xix x (oN h a) = true) : E_ d mX5_ticks 66 ls (.int y :: .int x :: .ref a :: st) h = E_ d mX5_ticks 67 ls st (pI h a (va_up (oI h a) x.toNatClampNeg y)) := e_iast dX5_ticks_66 rfl ht hi
theorem wX5_ticks_67 : E_ d mX5_ticks 67 [.val (.ref a)] st h = E_ d mX5_ticks 68 [.val (.ref a)] (.ref a :: st) h := e_go dX5_ticks_67 rfl rfl
theorem wX5_ticks_68 (ht : oT h a = 7) : E_ (d + 1) mX5_ticks 68 ls [.ref a] h = (C_ d mX5_carsGo [.ref a] h).bind fun r => E_ (d + 1) mX5_ticks 71 ls (xpu r.1 []) r.2 := e_vir dX5_ticks_68 rfl rfl rfl rfl rfl rfl (Nat.le_of_ble_eq_true rfl) (Nat.le_of_ble_eq_true rfl) ht
theorem wX5_ticks_71 : E_ d mX5_ticks 71 [.val (.ref a)] st h = E_ d mX5_ticks 72 [.val (.ref a)] (.ref a :: st) h := e_go dX5_ticks_71 rfl rfl
theorem wX5_ticks_72 (ht : oT h a = 7) : E_ d mX5_ticks 72 ls (.ref a :: st) h = E_ d mX5_ticks 75 ls (.int (oI h a 26) :: st) h := e_getI dX5_ticks_72 rfl rfl ht
theorem wX5_ticks_75 : E_ d mX5_ticks 75 ls st h = E_ d mX5_ticks 76 ls (.int ((-1)) :: st) h := e_iconst dX5_ticks_75 kiconst_m1 rfl
theorem wX5_ticks_76 : E_ d mX5_ticks 76 ls (.int y :: .int x :: st) h = if x = y then E_ d mX5_ticks 147 ls st h else E_ d mX5_ticks 79 ls st h := e_ieq dX5_ticks_76 rfl rfl
theorem wX5_ticks_79 : E_ d mX5_ticks 79 [.val (.ref a)] st h = E_ d mX5_ticks 80 [.val (.ref a)] (.ref a :: st) h := e_go dX5_ticks_79 rfl rfl
theorem wX5_ticks_80 (ht : oT h a = 7) : E_ d mX5_ticks 80 ls (.ref a :: st) h = E_ d mX5_ticks 83 ls (va_rf (oR h a 18) :: st) h := e_getR0 dX5_ticks_80 rfl rfl ht
theorem wX5_ticks_83 : E_ d mX5_ticks 83 ls st h = E_ d mX5_ticks 85 ls (.int (nI 37) :: st) h := e_bipush dX5_ticks_83 kbipush_37 rfl
theorem wX5_ticks_85 : E_ d mX5_ticks 85 ls st h = E_ d mX5_ticks 86 ls (.int (nI 2) :: st) h := e_iconst dX5_ticks_85 kiconst_2 rfl
theorem wX5_ticks_86 (ht : oT h a = 40) (hi : xix x (oN h a) = true) : E_ d mX5_ticks 86 ls (.int y :: .int x :: .ref a :: st) h = E_ d mX5_ticks 87 ls st (pI h a (va_up (oI h a) x.toNatClampNeg y)) := e_iast dX5_ticks_86 rfl ht hi
theorem wX5_ticks_87 : E_ d mX5_ticks 87 [.val (.ref a)] st h = E_ d mX5_ticks 88 [.val (.ref a)] (.ref a :: st) h := e_go dX5_ticks_87 rfl rfl
theorem wX5_ticks_88 (ht : oT h a = 7) : E_ d mX5_ticks 88 ls (.ref a :: st) h = E_ d mX5_ticks 91 ls (va_rf (oR h a 18) :: st) h := e_getR0 dX5_ticks_88 rfl rfl ht
theorem wX5_ticks_91 : E_ d mX5_ticks 91 ls st h = E_ d mX5_ticks 93 ls (.int (nI 39) :: st) h := e_bipush dX5_ticks_91 kbipush_39 rfl
theorem wX5_ticks_93 : E_ d mX5_ticks 93 [.val (.ref a)] st h = E_ d mX5_ticks 94 [.val (.ref a)] (.ref a :: st) h := e_go dX5_ticks_93 rfl rfl
theorem wX5_ticks_94 (ht : oT h a = 7) : E_ d mX5_ticks 94 ls (.ref a :: st) h = E_ d mX5_ticks 97 ls (.int (oI h a 26) :: st) h := e_getI dX5_ticks_94 rfl rfl ht
theorem wX5_ticks_97 (ht : oT h a = 40) (hi : xix x (oN h a) = true) : E_ d mX5_ticks 97 ls (.int y :: .int x :: .ref a :: st) h = E_ d mX5_ticks 98 ls st (pI h a (va_up (oI h a) x.toNatClampNeg y)) := e_iast dX5_ticks_97 rfl ht hi
theorem wX5_ticks_98 : E_ d mX5_ticks 98 [.val (.ref a)] st h = E_ d mX5_ticks 99 [.val (.ref a)] (.ref a :: st) h := e_go dX5_ticks_98 rfl rfl
theorem wX5_ticks_99 (ht : oT h a = 7) : E_ d mX5_ticks 99 ls (.ref a :: st) h = E_ d mX5_ticks 102 ls (va_rf (oR h a 18) :: st) h := e_getR0 dX5_ticks_99 rfl rfl ht
theorem wX5_ticks_102 : E_ d mX5_ticks 102 ls st h = E_ d mX5_ticks 104 ls (.int (nI 38) :: st) h := e_bipush dX5_ticks_102 kbipush_38 rfl
theorem wX5_ticks_104 : E_ d mX5_ticks 104 [.val (.ref a)] st h = E_ d mX5_ticks 105 [.val (.ref a)] (.ref a :: st) h := e_go dX5_ticks_104 rfl rfl
theorem wX5_ticks_105 (ht : oT h a = 7) : E_ d mX5_ticks 105 ls (.ref a :: st) h = E_ d mX5_ticks 108 ls (va_rf (oR h a 18) :: st) h := e_getR0 dX5_ticks_105 rfl rfl ht
theorem wX5_ticks_108 : E_ d mX5_ticks 108 ls st h = E_ d mX5_ticks 110 ls (.int (nI 8) :: st) h := e_bipush dX5_ticks_108 kbipush_8 rfl
theorem wX5_ticks_110 : E_ d mX5_ticks 110 [.val (.ref a)] st h = E_ d mX5_ticks 111 [.val (.ref a)] (.ref a :: st) h := e_go dX5_ticks_110 rfl rfl
theorem wX5_ticks_111 (ht : oT h a = 7) : E_ d mX5_ticks 111 ls (.ref a :: st) h = E_ d mX5_ticks 114 ls (.int (oI h a 26) :: st) h := e_getI dX5_ticks_111 rfl rfl ht
theorem wX5_ticks_114 : E_ d mX5_ticks 114 ls (.int y :: .int x :: st) h = E_ d mX5_ticks 115 ls (.int (x + y) :: st) h := e_go dX5_ticks_114 rfl rfl
theorem wX5_ticks_115 (ht : oT h a = 40) (hi : xix x (oN h a) = true) : E_ d mX5_ticks 115 ls (.int x :: .ref a :: st) h = E_ d mX5_ticks 116 ls (.int (oI h a x.toNatClampNeg) :: st) h := e_iald dX5_ticks_115 rfl ht hi
theorem wX5_ticks_116 : E_ d mX5_ticks 116 [.val (.ref a)] st h = E_ d mX5_ticks 117 [.val (.ref a)] (.ref a :: st) h := e_go dX5_ticks_116 rfl rfl
theorem wX5_ticks_117 (ht : oT h a = 7) : E_ d mX5_ticks 117 ls (.ref a :: st) h = E_ d mX5_ticks 120 ls (va_rf (oR h a 18) :: st) h := e_getR0 dX5_ticks_117 rfl rfl ht
theorem wX5_ticks_120 : E_ d mX5_ticks 120 ls st h = E_ d mX5_ticks 122 ls (.int (nI 8) :: st) h := e_bipush dX5_ticks_120 kbipush_8 rfl
theorem wX5_ticks_122 : E_ d mX5_ticks 122 [.val (.ref a)] st h = E_ d mX5_ticks 123 [.val (.ref a)] (.ref a :: st) h := e_go dX5_ticks_122 rfl rfl
theorem wX5_ticks_123 (ht : oT h a = 7) : E_ d mX5_ticks 123 ls (.ref a :: st) h = E_ d mX5_ticks 126 ls (.int (oI h a 26) :: st) h := e_getI dX5_ticks_123 rfl rfl ht
theorem wX5_ticks_126 : E_ d mX5_ticks 126 ls (.int y :: .int x :: st) h = E_ d mX5_ticks 127 ls (.int (x + y) :: st) h := e_go dX5_ticks_126 rfl rfl
theorem wX5_ticks_127 (ht : oT h a = 40) (hi : xix x (oN h a) = true) : E_ d mX5_ticks 127 ls (.int x :: .ref a :: st) h = E_ d mX5_ticks 128 ls (.int (oI h a x.toNatClampNeg) :: st) h := e_iald dX5_ticks_127 rfl ht hi
theorem wX5_ticks_128 : E_ d mX5_ticks 128 ls (.int y :: .int x :: st) h = E_ d mX5_ticks 129 ls (.int (x * y) :: st) h := e_go dX5_ticks_128 rfl rfl
theorem wX5_ticks_129 : E_ d mX5_ticks 129 [.val (.ref a)] st h = E_ d mX5_ticks 130 [.val (.ref a)] (.ref a :: st) h := e_go dX5_ticks_129 rfl rfl
theorem wX5_ticks_130 : E_ d mX5_ticks 130 ls st h = E_ d mX5_ticks 131 ls (.int (nI 0) :: st) h := e_iconst dX5_ticks_130 kiconst_0 rfl
theorem wX5_ticks_131 (ht : oT h a = 7) : E_ (d + 1) mX5_ticks 131 ls [.int x1, .ref a, .int x2, .int x3, .ref r1] h = (C_ d mX5_hasTrait [.ref a, .int x1] h).bind fun r => E_ (d + 1) mX5_ticks 134 ls (xpu r.1 [.int x2, .int x3, .ref r1]) r.2 := e_vir dX5_ticks_131 rfl rfl rfl rfl rfl rfl (Nat.le_of_ble_eq_true rfl) (Nat.le_of_ble_eq_true rfl) ht
theorem wX5_ticks_134 : E_ d mX5_ticks 134 ls (.int x :: st) h = if x = 0 then E_ d mX5_ticks 141 ls st h else E_ d mX5_ticks 137 ls st h := e_zeq dX5_ticks_134 rfl rfl
theorem wX5_ticks_137 : E_ d mX5_ticks 137 ls st h = E_ d mX5_ticks 138 ls (.int (nI 2) :: st) h := e_iconst dX5_ticks_137 kiconst_2 rfl
theorem wX5_ticks_138 : E_ d mX5_ticks 138 ls st h = E_ d mX5_ticks 142 ls st h := e_gt dX5_ticks_138 rfl
theorem wX5_ticks_141 : E_ d mX5_ticks 141 ls st h = E_ d mX5_ticks 142 ls (.int (nI 1) :: st) h := e_iconst dX5_ticks_141 kiconst_1 rfl
theorem wX5_ticks_142 : E_ d mX5_ticks 142 ls (.int y :: .int x :: st) h = E_ d mX5_ticks 143 ls (.int (x * y) :: st) h := e_go dX5_ticks_142 rfl rfl
theorem wX5_ticks_143 (ht : oT h a = 40) (hi : xix x (oN h a) = true) : E_ d mX5_ticks 143 ls (.int y :: .int x :: .ref a :: st) h = E_ d mX5_ticks 144 ls st (pI h a (va_up (oI h a) x.toNatClampNeg y)) := e_iast dX5_ticks_143 rfl ht hi
theorem wX5_ticks_144 : E_ d mX5_ticks 144 ls st h = E_ d mX5_ticks 239 ls st h := e_gt dX5_ticks_144 rfl
theorem wX5_ticks_147 : E_ d mX5_ticks 147 [.val (.ref a)] st h = E_ d mX5_ticks 148 [.val (.ref a)] (.ref a :: st) h := e_go dX5_ticks_147 rfl rfl
theorem wX5_ticks_148 (ht : oT h a = 7) : E_ d mX5_ticks 148 ls (.ref a :: st) h = E_ d mX5_ticks 151 ls (va_rf (oR h a 18) :: st) h := e_getR0 dX5_ticks_148 rfl rfl ht
theorem wX5_ticks_151 : E_ d mX5_ticks 151 ls st h = E_ d mX5_ticks 153 ls (.int (nI 33) :: st) h := e_bipush dX5_ticks_151 kbipush_33 rfl
theorem wX5_ticks_153 (ht : oT h a = 40) (hi : xix x (oN h a) = true) : E_ d mX5_ticks 153 ls (.int x :: .ref a :: st) h = E_ d mX5_ticks 154 ls (.int (oI h a x.toNatClampNeg) :: st) h := e_iald dX5_ticks_153 rfl ht hi
theorem wX5_ticks_154 : E_ d mX5_ticks 154 ls st h = E_ d mX5_ticks 155 ls (.int (nI 1) :: st) h := e_iconst dX5_ticks_154 kiconst_1 rfl
theorem wX5_ticks_155 : E_ d mX5_ticks 155 ls (.int y :: .int x :: st) h = if x = y then E_ d mX5_ticks 158 ls st h else E_ d mX5_ticks 239 ls st h := e_ine dX5_ticks_155 rfl rfl
theorem wX5_ticks_158 : E_ d mX5_ticks 158 [.val (.ref a)] st h = E_ d mX5_ticks 159 [.val (.ref a)] (.ref a :: st) h := e_go dX5_ticks_158 rfl rfl
theorem wX5_ticks_159 (ht : oT h a = 7) : E_ d mX5_ticks 159 ls (.ref a :: st) h = E_ d mX5_ticks 162 ls (va_rf (oR h a 18) :: st) h := e_getR0 dX5_ticks_159 rfl rfl ht
theorem wX5_ticks_162 : E_ d mX5_ticks 162 ls st h = E_ d mX5_ticks 164 ls (.int (nI 34) :: st) h := e_bipush dX5_ticks_162 kbipush_34 rfl
theorem wX5_ticks_164 : E_ d mX5_ticks 164 ls (.int x :: .ref b :: st) h = E_ d mX5_ticks 165 ls (.int x :: .ref b :: .int x :: .ref b :: st) h := e_go dX5_ticks_164 rfl rfl
theorem wX5_ticks_165 (ht : oT h a = 40) (hi : xix x (oN h a) = true) : E_ d mX5_ticks 165 ls (.int x :: .ref a :: st) h = E_ d mX5_ticks 166 ls (.int (oI h a x.toNatClampNeg) :: st) h := e_iald dX5_ticks_165 rfl ht hi
theorem wX5_ticks_166 : E_ d mX5_ticks 166 ls st h = E_ d mX5_ticks 167 ls (.int (nI 1) :: st) h := e_iconst dX5_ticks_166 kiconst_1 rfl
theorem wX5_ticks_167 : E_ d mX5_ticks 167 ls (.int y :: .int x :: st) h = E_ d mX5_ticks 168 ls (.int (x + y) :: st) h := e_go dX5_ticks_167 rfl rfl
theorem wX5_ticks_168 (ht : oT h a = 40) (hi : xix x (oN h a) = true) : E_ d mX5_ticks 168 ls (.int y :: .int x :: .ref a :: st) h = E_ d mX5_ticks 169 ls st (pI h a (va_up (oI h a) x.toNatClampNeg y)) := e_iast dX5_ticks_168 rfl ht hi
theorem wX5_ticks_169 : E_ d mX5_ticks 169 [.val (.ref a)] st h = E_ d mX5_ticks 170 [.val (.ref a)] (.ref a :: st) h := e_go dX5_ticks_169 rfl rfl
theorem wX5_ticks_170 (ht : oT h a = 7) : E_ d mX5_ticks 170 ls (.ref a :: st) h = E_ d mX5_ticks 173 ls (va_rf (oR h a 18) :: st) h := e_getR0 dX5_ticks_170 rfl rfl ht
theorem wX5_ticks_173 : E_ d mX5_ticks 173 ls st h = E_ d mX5_ticks 175 ls (.int (nI 34) :: st) h := e_bipush dX5_ticks_173 kbipush_34 rfl
theorem wX5_ticks_175 (ht : oT h a = 40) (hi : xix x (oN h a) = true) : E_ d mX5_ticks 175 ls (.int x :: .ref a :: st) h = E_ d mX5_ticks 176 ls (.int (oI h a x.toNatClampNeg) :: st) h := e_iald dX5_ticks_175 rfl ht hi
theorem wX5_ticks_176 : E_ d mX5_ticks 176 [.val (.ref a)] st h = E_ d mX5_ticks 177 [.val (.ref a)] (.ref a :: st) h := e_go dX5_ticks_176 rfl rfl
theorem wX5_ticks_177 : E_ d mX5_ticks 177 ls st h = E_ d mX5_ticks 178 ls (.int (nI 0) :: st) h := e_iconst dX5_ticks_177 kiconst_0 rfl
theorem wX5_ticks_178 (ht : oT h a = 7) : E_ (d + 1) mX5_ticks 178 ls [.int x1, .ref a, .int x2] h = (C_ d mX5_hasTrait [.ref a, .int x1] h).bind fun r => E_ (d + 1) mX5_ticks 181 ls (xpu r.1 [.int x2]) r.2 := e_vir dX5_ticks_178 rfl rfl rfl rfl rfl rfl (Nat.le_of_ble_eq_true rfl) (Nat.le_of_ble_eq_true rfl) ht
theorem wX5_ticks_181 : E_ d mX5_ticks 181 ls (.int x :: st) h = if x = 0 then E_ d mX5_ticks 188 ls st h else E_ d mX5_ticks 184 ls st h := e_zeq dX5_ticks_181 rfl rfl
theorem wX5_ticks_184 : E_ d mX5_ticks 184 ls st h = E_ d mX5_ticks 185 ls (.int (nI 2) :: st) h := e_iconst dX5_ticks_184 kiconst_2 rfl
theorem wX5_ticks_185 : E_ d mX5_ticks 185 ls st h = E_ d mX5_ticks 189 ls st h := e_gt dX5_ticks_185 rfl
theorem wX5_ticks_188 : E_ d mX5_ticks 188 ls st h = E_ d mX5_ticks 189 ls (.int (nI 1) :: st) h := e_iconst dX5_ticks_188 kiconst_1 rfl
theorem wX5_ticks_189 : E_ d mX5_ticks 189 ls (.int y :: .int x :: st) h = if x < y then E_ d mX5_ticks 239 ls st h else E_ d mX5_ticks 192 ls st h := e_ilt dX5_ticks_189 rfl rfl
theorem wX5_ticks_192 : E_ d mX5_ticks 192 [.val (.ref a)] st h = E_ d mX5_ticks 193 [.val (.ref a)] (.ref a :: st) h := e_go dX5_ticks_192 rfl rfl
theorem wX5_ticks_193 (ht : oT h a = 7) : E_ d mX5_ticks 193 ls (.ref a :: st) h = E_ d mX5_ticks 196 ls (va_rf (oR h a 18) :: st) h := e_getR0 dX5_ticks_193 rfl rfl ht
theorem wX5_ticks_196 : E_ d mX5_ticks 196 ls st h = E_ d mX5_ticks 198 ls (.int (nI 33) :: st) h := e_bipush dX5_ticks_196 kbipush_33 rfl
theorem wX5_ticks_198 : E_ d mX5_ticks 198 ls st h = E_ d mX5_ticks 199 ls (.int (nI 0) :: st) h := e_iconst dX5_ticks_198 kiconst_0 rfl
theorem wX5_ticks_199 (ht : oT h a = 40) (hi : xix x (oN h a) = true) : E_ d mX5_ticks 199 ls (.int y :: .int x :: .ref a :: st) h = E_ d mX5_ticks 200 ls st (pI h a (va_up (oI h a) x.toNatClampNeg y)) := e_iast dX5_ticks_199 rfl ht hi
theorem wX5_ticks_200 : E_ d mX5_ticks 200 [.val (.ref a)] st h = E_ d mX5_ticks 201 [.val (.ref a)] (.ref a :: st) h := e_go dX5_ticks_200 rfl rfl
theorem wX5_ticks_201 (ht : oT h a = 7) : E_ d mX5_ticks 201 ls (.ref a :: st) h = E_ d mX5_ticks 204 ls (va_rf (oR h a 18) :: st) h := e_getR0 dX5_ticks_201 rfl rfl ht
theorem wX5_ticks_204 : E_ d mX5_ticks 204 ls st h = E_ d mX5_ticks 206 ls (.int (nI 32) :: st) h := e_bipush dX5_ticks_204 kbipush_32 rfl
theorem wX5_ticks_206 : E_ d mX5_ticks 206 ls (.int x :: .ref b :: st) h = E_ d mX5_ticks 207 ls (.int x :: .ref b :: .int x :: .ref b :: st) h := e_go dX5_ticks_206 rfl rfl
theorem wX5_ticks_207 (ht : oT h a = 40) (hi : xix x (oN h a) = true) : E_ d mX5_ticks 207 ls (.int x :: .ref a :: st) h = E_ d mX5_ticks 208 ls (.int (oI h a x.toNatClampNeg) :: st) h := e_iald dX5_ticks_207 rfl ht hi
theorem wX5_ticks_208 : E_ d mX5_ticks 208 ls st h = E_ d mX5_ticks 209 ls (.int (nI 1) :: st) h := e_iconst dX5_ticks_208 kiconst_1 rfl
theorem wX5_ticks_209 : E_ d mX5_ticks 209 ls (.int y :: .int x :: st) h = E_ d mX5_ticks 210 ls (.int (x + y) :: st) h := e_go dX5_ticks_209 rfl rfl
theorem wX5_ticks_210 (ht : oT h a = 40) (hi : xix x (oN h a) = true) : E_ d mX5_ticks 210 ls (.int y :: .int x :: .ref a :: st) h = E_ d mX5_ticks 211 ls st (pI h a (va_up (oI h a) x.toNatClampNeg y)) := e_iast dX5_ticks_210 rfl ht hi
theorem wX5_ticks_211 : E_ d mX5_ticks 211 [.val (.ref a)] st h = E_ d mX5_ticks 212 [.val (.ref a)] (.ref a :: st) h := e_go dX5_ticks_211 rfl rfl
theorem wX5_ticks_212 (ht : oT h a = 7) : E_ d mX5_ticks 212 ls (.ref a :: st) h = E_ d mX5_ticks 215 ls (va_rf (oR h a 18) :: st) h := e_getR0 dX5_ticks_212 rfl rfl ht
theorem wX5_ticks_215 : E_ d mX5_ticks 215 ls st h = E_ d mX5_ticks 217 ls (.int (nI 37) :: st) h := e_bipush dX5_ticks_215 kbipush_37 rfl
theorem wX5_ticks_217 : E_ d mX5_ticks 217 [.val (.ref a)] st h = E_ d mX5_ticks 218 [.val (.ref a)] (.ref a :: st) h := e_go dX5_ticks_217 rfl rfl
theorem wX5_ticks_218 (ht : oT h a = 7) : E_ d mX5_ticks 218 ls (.ref a :: st) h = E_ d mX5_ticks 221 ls (va_rf (oR h a 18) :: st) h := e_getR0 dX5_ticks_218 rfl rfl ht
theorem wX5_ticks_221 : E_ d mX5_ticks 221 ls st h = E_ d mX5_ticks 223 ls (.int (nI 32) :: st) h := e_bipush dX5_ticks_221 kbipush_32 rfl
theorem wX5_ticks_223 (ht : oT h a = 40) (hi : xix x (oN h a) = true) : E_ d mX5_ticks 223 ls (.int x :: .ref a :: st) h = E_ d mX5_ticks 224 ls (.int (oI h a x.toNatClampNeg) :: st) h := e_iald dX5_ticks_223 rfl ht hi
theorem wX5_ticks_224 : E_ d mX5_ticks 224 [.val (.ref a)] st h = E_ d mX5_ticks 225 [.val (.ref a)] (.ref a :: st) h := e_go dX5_ticks_224 rfl rfl
theorem wX5_ticks_225 (ht : oT h a = 7) : E_ d mX5_ticks 225 ls (.ref a :: st) h = E_ d mX5_ticks 228 ls (va_rf (oR h a 2) :: st) h := e_getR0 dX5_ticks_225 rfl rfl ht
theorem wX5_ticks_228 : E_ d mX5_ticks 228 ls st h = E_ d mX5_ticks 229 ls (.int (nI 0) :: st) h := e_iconst dX5_ticks_228 kiconst_0 rfl
theorem wX5_ticks_229 (ht : oT h a = 40) (hi : xix x (oN h a) = true) : E_ d mX5_ticks 229 ls (.int x :: .ref a :: st) h = E_ d mX5_ticks 230 ls (.int (oI h a x.toNatClampNeg) :: st) h := e_iald dX5_ticks_229 rfl ht hi
theorem wX5_ticks_230 : E_ d mX5_ticks 230 ls (.int y :: .int x :: st) h = if x = y then E_ d mX5_ticks 233 ls st h else E_ d mX5_ticks 237 ls st h := e_ine dX5_ticks_230 rfl rfl
theorem wX5_ticks_233 : E_ d mX5_ticks 233 ls st h = E_ d mX5_ticks 234 ls (.int (nI 1) :: st) h := e_iconst dX5_ticks_233 kiconst_1 rfl
theorem wX5_ticks_234 : E_ d mX5_ticks 234 ls st h = E_ d mX5_ticks 238 ls st h := e_gt dX5_ticks_234 rfl
theorem wX5_ticks_237 : E_ d mX5_ticks 237 ls st h = E_ d mX5_ticks 238 ls (.int (nI 0) :: st) h := e_iconst dX5_ticks_237 kiconst_0 rfl
theorem wX5_ticks_238 (ht : oT h a = 40) (hi : xix x (oN h a) = true) : E_ d mX5_ticks 238 ls (.int y :: .int x :: .ref a :: st) h = E_ d mX5_ticks 239 ls st (pI h a (va_up (oI h a) x.toNatClampNeg y)) := e_iast dX5_ticks_238 rfl ht hi
theorem wX5_ticks_239 : E_ d mX5_ticks 239 [.val (.ref a)] st h = E_ d mX5_ticks 240 [.val (.ref a)] (.ref a :: st) h := e_go dX5_ticks_239 rfl rfl
theorem wX5_ticks_240 (ht : oT h a = 7) : E_ d mX5_ticks 240 ls (.ref a :: st) h = E_ d mX5_ticks 243 ls (va_rf (oR h a 18) :: st) h := e_getR0 dX5_ticks_240 rfl rfl ht
theorem wX5_ticks_243 : E_ d mX5_ticks 243 ls st h = E_ d mX5_ticks 245 ls (.int (nI 35) :: st) h := e_bipush dX5_ticks_243 kbipush_35 rfl
theorem wX5_ticks_245 : E_ d mX5_ticks 245 ls (.int x :: .ref b :: st) h = E_ d mX5_ticks 246 ls (.int x :: .ref b :: .int x :: .ref b :: st) h := e_go dX5_ticks_245 rfl rfl
theorem wX5_ticks_246 (ht : oT h a = 40) (hi : xix x (oN h a) = true) : E_ d mX5_ticks 246 ls (.int x :: .ref a :: st) h = E_ d mX5_ticks 247 ls (.int (oI h a x.toNatClampNeg) :: st) h := e_iald dX5_ticks_246 rfl ht hi
theorem wX5_ticks_247 : E_ d mX5_ticks 247 [.val (.ref a)] st h = E_ d mX5_ticks 248 [.val (.ref a)] (.ref a :: st) h := e_go dX5_ticks_247 rfl rfl
theorem wX5_ticks_248 (ht : oT h a = 7) : E_ d mX5_ticks 248 ls (.ref a :: st) h = E_ d mX5_ticks 251 ls (va_rf (oR h a 18) :: st) h := e_getR0 dX5_ticks_248 rfl rfl ht
theorem wX5_ticks_251 : E_ d mX5_ticks 251 ls st h = E_ d mX5_ticks 253 ls (.int (nI 33) :: st) h := e_bipush dX5_ticks_251 kbipush_33 rfl
theorem wX5_ticks_253 (ht : oT h a = 40) (hi : xix x (oN h a) = true) : E_ d mX5_ticks 253 ls (.int x :: .ref a :: st) h = E_ d mX5_ticks 254 ls (.int (oI h a x.toNatClampNeg) :: st) h := e_iald dX5_ticks_253 rfl ht hi
theorem wX5_ticks_254 : E_ d mX5_ticks 254 ls (.int x :: st) h = if x = 0 then E_ d mX5_ticks 257 ls st h else E_ d mX5_ticks 271 ls st h := e_zne dX5_ticks_254 rfl rfl
theorem wX5_ticks_257 : E_ d mX5_ticks 257 [.val (.ref a)] st h = E_ d mX5_ticks 258 [.val (.ref a)] (.ref a :: st) h := e_go dX5_ticks_257 rfl rfl
theorem wX5_ticks_258 (ht : oT h a = 7) : E_ d mX5_ticks 258 ls (.ref a :: st) h = E_ d mX5_ticks 261 ls (va_rf (oR h a 18) :: st) h := e_getR0 dX5_ticks_258 rfl rfl ht
theorem wX5_ticks_261 : E_ d mX5_ticks 261 ls st h = E_ d mX5_ticks 263 ls (.int (nI 32) :: st) h := e_bipush dX5_ticks_261 kbipush_32 rfl
theorem wX5_ticks_263 (ht : oT h a = 40) (hi : xix x (oN h a) = true) : E_ d mX5_ticks 263 ls (.int x :: .ref a :: st) h = E_ d mX5_ticks 264 ls (.int (oI h a x.toNatClampNeg) :: st) h := e_iald dX5_ticks_263 rfl ht hi
theorem wX5_ticks_264 : E_ d mX5_ticks 264 ls (.int x :: st) h = if x = 0 then E_ d mX5_ticks 267 ls st h else E_ d mX5_ticks 271 ls st h := e_zne dX5_ticks_264 rfl rfl
theorem wX5_ticks_267 : E_ d mX5_ticks 267 ls st h = E_ d mX5_ticks 268 ls (.int (nI 1) :: st) h := e_iconst dX5_ticks_267 kiconst_1 rfl
theorem wX5_ticks_268 : E_ d mX5_ticks 268 ls st h = E_ d mX5_ticks 272 ls st h := e_gt dX5_ticks_268 rfl
theorem wX5_ticks_271 : E_ d mX5_ticks 271 ls st h = E_ d mX5_ticks 272 ls (.int (nI 0) :: st) h := e_iconst dX5_ticks_271 kiconst_0 rfl
theorem wX5_ticks_272 : E_ d mX5_ticks 272 ls (.int y :: .int x :: st) h = E_ d mX5_ticks 273 ls (.int (x + y) :: st) h := e_go dX5_ticks_272 rfl rfl
theorem wX5_ticks_273 (ht : oT h a = 40) (hi : xix x (oN h a) = true) : E_ d mX5_ticks 273 ls (.int y :: .int x :: .ref a :: st) h = E_ d mX5_ticks 274 ls st (pI h a (va_up (oI h a) x.toNatClampNeg y)) := e_iast dX5_ticks_273 rfl ht hi
theorem wX5_ticks_274 : E_ d mX5_ticks 274 [.val (.ref a)] st h = E_ d mX5_ticks 275 [.val (.ref a)] (.ref a :: st) h := e_go dX5_ticks_274 rfl rfl
theorem wX5_ticks_275 (ht : oT h a = 7) : E_ d mX5_ticks 275 ls (.ref a :: st) h = E_ d mX5_ticks 278 ls (va_rf (oR h a 18) :: st) h := e_getR0 dX5_ticks_275 rfl rfl ht
theorem wX5_ticks_278 : E_ d mX5_ticks 278 ls st h = E_ d mX5_ticks 280 ls (.int (nI 36) :: st) h := e_bipush dX5_ticks_278 kbipush_36 rfl
theorem wX5_ticks_280 : E_ d mX5_ticks 280 ls (.int x :: .ref b :: st) h = E_ d mX5_ticks 281 ls (.int x :: .ref b :: .int x :: .ref b :: st) h := e_go dX5_ticks_280 rfl rfl
theorem wX5_ticks_281 (ht : oT h a = 40) (hi : xix x (oN h a) = true) : E_ d mX5_ticks 281 ls (.int x :: .ref a :: st) h = E_ d mX5_ticks 282 ls (.int (oI h a x.toNatClampNeg) :: st) h := e_iald dX5_ticks_281 rfl ht hi
theorem wX5_ticks_282 : E_ d mX5_ticks 282 ls st h = E_ d mX5_ticks 283 ls (.int (nI 1) :: st) h := e_iconst dX5_ticks_282 kiconst_1 rfl
theorem wX5_ticks_283 : E_ d mX5_ticks 283 ls (.int y :: .int x :: st) h = E_ d mX5_ticks 284 ls (.int (x + y) :: st) h := e_go dX5_ticks_283 rfl rfl
theorem wX5_ticks_284 (ht : oT h a = 40) (hi : xix x (oN h a) = true) : E_ d mX5_ticks 284 ls (.int y :: .int x :: .ref a :: st) h = E_ d mX5_ticks 285 ls st (pI h a (va_up (oI h a) x.toNatClampNeg y)) := e_iast dX5_ticks_284 rfl ht hi
theorem wX5_ticks_285 : E_ d mX5_ticks 285 [.val (.ref a)] st h = E_ d mX5_ticks 286 [.val (.ref a)] (.ref a :: st) h := e_go dX5_ticks_285 rfl rfl
theorem wX5_ticks_286 (ht : oT h a = 7) : E_ d mX5_ticks 286 ls (.ref a :: st) h = E_ d mX5_ticks 289 ls (va_rf (oR h a 18) :: st) h := e_getR0 dX5_ticks_286 rfl rfl ht
theorem wX5_ticks_289 : E_ d mX5_ticks 289 ls st h = E_ d mX5_ticks 291 ls (.int (nI 37) :: st) h := e_bipush dX5_ticks_289 kbipush_37 rfl
theorem wX5_ticks_291 (ht : oT h a = 40) (hi : xix x (oN h a) = true) : E_ d mX5_ticks 291 ls (.int x :: .ref a :: st) h = E_ d mX5_ticks 292 ls (.int (oI h a x.toNatClampNeg) :: st) h := e_iald dX5_ticks_291 rfl ht hi
theorem wX5_ticks_292 : E_ d mX5_ticks 292 ls (.int x :: st) h = if x = 0 then E_ d mX5_ticks 295 ls st h else E_ d mX5_ticks 315 ls st h := e_zne dX5_ticks_292 rfl rfl
theorem wX5_ticks_295 : E_ d mX5_ticks 295 [.val (.ref a)] st h = E_ d mX5_ticks 296 [.val (.ref a)] (.ref a :: st) h := e_go dX5_ticks_295 rfl rfl
theorem wX5_ticks_296 (ht : oT h a = 7) : E_ d mX5_ticks 296 ls (.ref a :: st) h = E_ d mX5_ticks 299 ls (va_rf (oR h a 18) :: st) h := e_getR0 dX5_ticks_296 rfl rfl ht
theorem wX5_ticks_299 : E_ d mX5_ticks 299 ls st h = E_ d mX5_ticks 301 ls (.int (nI 36) :: st) h := e_bipush dX5_ticks_299 kbipush_36 rfl
theorem wX5_ticks_301 (ht : oT h a = 40) (hi : xix x (oN h a) = true) : E_ d mX5_ticks 301 ls (.int x :: .ref a :: st) h = E_ d mX5_ticks 302 ls (.int (oI h a x.toNatClampNeg) :: st) h := e_iald dX5_ticks_301 rfl ht hi
theorem wX5_ticks_302 : E_ d mX5_ticks 302 ls st h = E_ d mX5_ticks 304 ls (.int (nI 99) :: st) h := e_bipush dX5_ticks_302 kbipush_99 rfl
theorem wX5_ticks_304 : E_ d mX5_ticks 304 ls (.int y :: .int x :: st) h = if x = y then E_ d mX5_ticks 307 ls st h else E_ d mX5_ticks 315 ls st h := e_ine dX5_ticks_304 rfl rfl
theorem wX5_ticks_307 : E_ d mX5_ticks 307 [.val (.ref a)] st h = E_ d mX5_ticks 308 [.val (.ref a)] (.ref a :: st) h := e_go dX5_ticks_307 rfl rfl
theorem wX5_ticks_308 (ht : oT h a = 7) : E_ d mX5_ticks 308 ls (.ref a :: st) h = E_ d mX5_ticks 311 ls (va_rf (oR h a 18) :: st) h := e_getR0 dX5_ticks_308 rfl rfl ht
theorem wX5_ticks_311 : E_ d mX5_ticks 311 ls st h = E_ d mX5_ticks 313 ls (.int (nI 37) :: st) h := e_bipush dX5_ticks_311 kbipush_37 rfl
theorem wX5_ticks_313 : E_ d mX5_ticks 313 ls st h = E_ d mX5_ticks 314 ls (.int (nI 3) :: st) h := e_iconst dX5_ticks_313 kiconst_3 rfl
theorem wX5_ticks_314 (ht : oT h a = 40) (hi : xix x (oN h a) = true) : E_ d mX5_ticks 314 ls (.int y :: .int x :: .ref a :: st) h = E_ d mX5_ticks 315 ls st (pI h a (va_up (oI h a) x.toNatClampNeg y)) := e_iast dX5_ticks_314 rfl ht hi
theorem wX5_ticks_315 : E_ d mX5_ticks 315 [.val (.ref a)] st h = E_ d mX5_ticks 316 [.val (.ref a)] (.ref a :: st) h := e_go dX5_ticks_315 rfl rfl
theorem wX5_ticks_316 (ht : oT h a = 7) : E_ d mX5_ticks 316 ls (.ref a :: st) h = E_ d mX5_ticks 319 ls (va_rf (oR h a 18) :: st) h := e_getR0 dX5_ticks_316 rfl rfl ht
theorem wX5_ticks_319 : E_ d mX5_ticks 319 ls st h = E_ d mX5_ticks 321 ls (.int (nI 41) :: st) h := e_bipush dX5_ticks_319 kbipush_41 rfl
theorem wX5_ticks_321 : E_ d mX5_ticks 321 ls st h = E_ d mX5_ticks 322 ls (.int (nI 0) :: st) h := e_iconst dX5_ticks_321 kiconst_0 rfl
theorem wX5_ticks_322 (ht : oT h a = 40) (hi : xix x (oN h a) = true) : E_ d mX5_ticks 322 ls (.int y :: .int x :: .ref a :: st) h = E_ d mX5_ticks 323 ls st (pI h a (va_up (oI h a) x.toNatClampNeg y)) := e_iast dX5_ticks_322 rfl ht hi
theorem wX5_ticks_323 : E_ d mX5_ticks 323 ls [] h = some (none, h) := e_rt dX5_ticks_323 rfl rfl
/-! FootOutModel.isFree -/
theorem wX5_isFree_0 : E_ d mX5_isFree 0 ls st h = E_ d mX5_isFree 1 ls (.int (nI 0) :: st) h := e_iconst dX5_isFree_0 kiconst_0 rfl
theorem wX5_isFree_1 : E_ d mX5_isFree 1 [s0, s1, s2] (.int x :: st) h = E_ d mX5_isFree 2 [s0, xk s1, .val (.int x)] st h := e_go dX5_isFree_1 rfl rfl
theorem wX5_isFree_2 : E_ d mX5_isFree 2 [s0, s1, .val (.int x)] st h = E_ d mX5_isFree 3 [s0, s1, .val (.int x)] (.int x :: st) h := e_go dX5_isFree_2 rfl rfl
theorem wX5_isFree_3 : E_ d mX5_isFree 3 [.val (.ref a), s1, s2] st h = E_ d mX5_isFree 4 [.val (.ref a), s1, s2] (.ref a :: st) h := e_go dX5_isFree_3 rfl rfl
theorem wX5_isFree_4 (ht : oT h a = 7) : E_ d mX5_isFree 4 ls (.ref a :: st) h = E_ d mX5_isFree 7 ls (va_rf (oR h a 2) :: st) h := e_getR0 dX5_isFree_4 rfl rfl ht
theorem wX5_isFree_7 : E_ d mX5_isFree 7 ls st h = E_ d mX5_isFree 8 ls (.int (nI 1) :: st) h := e_iconst dX5_isFree_7 kiconst_1 rfl
theorem wX5_isFree_8 (ht : oT h a = 40) (hi : xix x (oN h a) = true) : E_ d mX5_isFree 8 ls (.int x :: .ref a :: st) h = E_ d mX5_isFree 9 ls (.int (oI h a x.toNatClampNeg) :: st) h := e_iald dX5_isFree_8 rfl ht hi
theorem wX5_isFree_9 : E_ d mX5_isFree 9 ls (.int y :: .int x :: st) h = if x < y then E_ d mX5_isFree 12 ls st h else E_ d mX5_isFree 120 ls st h := e_ige dX5_isFree_9 rfl rfl
theorem wX5_isFree_12 : E_ d mX5_isFree 12 [.val (.ref a), s1, s2] st h = E_ d mX5_isFree 13 [.val (.ref a), s1, s2] (.ref a :: st) h := e_go dX5_isFree_12 rfl rfl
theorem wX5_isFree_13 (ht : oT h a = 7) : E_ d mX5_isFree 13 ls (.ref a :: st) h = E_ d mX5_isFree 16 ls (va_rf (oR h a 2) :: st) h := e_getR0 dX5_isFree_13 rfl rfl ht
theorem wX5_isFree_16 : E_ d mX5_isFree 16 ls st h = E_ d mX5_isFree 17 ls (.int (nI 2) :: st) h := e_iconst dX5_isFree_16 kiconst_2 rfl
theorem wX5_isFree_17 : E_ d mX5_isFree 17 [s0, s1, .val (.int x)] st h = E_ d mX5_isFree 18 [s0, s1, .val (.int x)] (.int x :: st) h := e_go dX5_isFree_17 rfl rfl
theorem wX5_isFree_18 : E_ d mX5_isFree 18 ls (.int y :: .int x :: st) h = E_ d mX5_isFree 19 ls (.int (x + y) :: st) h := e_go dX5_isFree_18 rfl rfl
theorem wX5_isFree_19 (ht : oT h a = 40) (hi : xix x (oN h a) = true) : E_ d mX5_isFree 19 ls (.int x :: .ref a :: st) h = E_ d mX5_isFree 20 ls (.int (oI h a x.toNatClampNeg) :: st) h := e_iald dX5_isFree_19 rfl ht hi
theorem wX5_isFree_20 : E_ d mX5_isFree 20 [s0, .val (.int x), s2] st h = E_ d mX5_isFree 21 [s0, .val (.int x), s2] (.int x :: st) h := e_go dX5_isFree_20 rfl rfl
theorem wX5_isFree_21 : E_ d mX5_isFree 21 ls (.int y :: .int x :: st) h = if x = y then E_ d mX5_isFree 24 ls st h else E_ d mX5_isFree 114 ls st h := e_ine dX5_isFree_21 rfl rfl
theorem wX5_isFree_24 : E_ d mX5_isFree 24 [.val (.ref a), s1, s2] st h = E_ d mX5_isFree 25 [.val (.ref a), s1, s2] (.ref a :: st) h := e_go dX5_isFree_24 rfl rfl
theorem wX5_isFree_25 (ht : oT h a = 7) : E_ d mX5_isFree 25 ls (.ref a :: st) h = E_ d mX5_isFree 28 ls (va_rf (oR h a 18) :: st) h := e_getR0 dX5_isFree_25 rfl rfl ht
theorem wX5_isFree_28 : E_ d mX5_isFree 28 ls st h = E_ d mX5_isFree 29 ls (.int (nI 0) :: st) h := e_iconst dX5_isFree_28 kiconst_0 rfl
theorem wX5_isFree_29 : E_ d mX5_isFree 29 [s0, s1, .val (.int x)] st h = E_ d mX5_isFree 30 [s0, s1, .val (.int x)] (.int x :: st) h := e_go dX5_isFree_29 rfl rfl
theorem wX5_isFree_30 : E_ d mX5_isFree 30 ls (.int y :: .int x :: st) h = E_ d mX5_isFree 31 ls (.int (x + y) :: st) h := e_go dX5_isFree_30 rfl rfl
theorem wX5_isFree_31 (ht : oT h a = 40) (hi : xix x (oN h a) = true) : E_ d mX5_isFree 31 ls (.int x :: .ref a :: st) h = E_ d mX5_isFree 32 ls (.int (oI h a x.toNatClampNeg) :: st) h := e_iald dX5_isFree_31 rfl ht hi
theorem wX5_isFree_32 : E_ d mX5_isFree 32 ls (.int x :: st) h = if 0 < x then E_ d mX5_isFree 35 ls st h else E_ d mX5_isFree 114 ls st h := e_zle dX5_isFree_32 rfl rfl
theorem wX5_isFree_35 : E_ d mX5_isFree 35 [.val (.ref a), s1, s2] st h = E_ d mX5_isFree 36 [.val (.ref a), s1, s2] (.ref a :: st) h := e_go dX5_isFree_35 rfl rfl
theorem wX5_isFree_36 (ht : oT h a = 7) : E_ d mX5_isFree 36 ls (.ref a :: st) h = E_ d mX5_isFree 39 ls (va_rf (oR h a 18) :: st) h := e_getR0 dX5_isFree_36 rfl rfl ht
theorem wX5_isFree_39 : E_ d mX5_isFree 39 ls st h = E_ d mX5_isFree 41 ls (.int (nI 16) :: st) h := e_bipush dX5_isFree_39 kbipush_16 rfl
theorem wX5_isFree_41 : E_ d mX5_isFree 41 [s0, s1, .val (.int x)] st h = E_ d mX5_isFree 42 [s0, s1, .val (.int x)] (.int x :: st) h := e_go dX5_isFree_41 rfl rfl
theorem wX5_isFree_42 : E_ d mX5_isFree 42 ls (.int y :: .int x :: st) h = E_ d mX5_isFree 43 ls (.int (x + y) :: st) h := e_go dX5_isFree_42 rfl rfl
theorem wX5_isFree_43 (ht : oT h a = 40) (hi : xix x (oN h a) = true) : E_ d mX5_isFree 43 ls (.int x :: .ref a :: st) h = E_ d mX5_isFree 44 ls (.int (oI h a x.toNatClampNeg) :: st) h := e_iald dX5_isFree_43 rfl ht hi
theorem wX5_isFree_44 : E_ d mX5_isFree 44 ls st h = E_ d mX5_isFree 45 ls (.int (nI 2) :: st) h := e_iconst dX5_isFree_44 kiconst_2 rfl
theorem wX5_isFree_45 : E_ d mX5_isFree 45 ls (.int y :: .int x :: st) h = if x = y then E_ d mX5_isFree 114 ls st h else E_ d mX5_isFree 48 ls st h := e_ieq dX5_isFree_45 rfl rfl
theorem wX5_isFree_48 : E_ d mX5_isFree 48 [.val (.ref a), s1, s2] st h = E_ d mX5_isFree 49 [.val (.ref a), s1, s2] (.ref a :: st) h := e_go dX5_isFree_48 rfl rfl
theorem wX5_isFree_49 (ht : oT h a = 7) : E_ d mX5_isFree 49 ls (.ref a :: st) h = E_ d mX5_isFree 52 ls (va_rf (oR h a 18) :: st) h := e_getR0 dX5_isFree_49 rfl rfl ht
theorem wX5_isFree_52 : E_ d mX5_isFree 52 ls st h = E_ d mX5_isFree 54 ls (.int (nI 24) :: st) h := e_bipush dX5_isFree_52 kbipush_24 rfl
theorem wX5_isFree_54 : E_ d mX5_isFree 54 [s0, s1, .val (.int x)] st h = E_ d mX5_isFree 55 [s0, s1, .val (.int x)] (.int x :: st) h := e_go dX5_isFree_54 rfl rfl
theorem wX5_isFree_55 : E_ d mX5_isFree 55 ls (.int y :: .int x :: st) h = E_ d mX5_isFree 56 ls (.int (x + y) :: st) h := e_go dX5_isFree_55 rfl rfl
theorem wX5_isFree_56 (ht : oT h a = 40) (hi : xix x (oN h a) = true) : E_ d mX5_isFree 56 ls (.int x :: .ref a :: st) h = E_ d mX5_isFree 57 ls (.int (oI h a x.toNatClampNeg) :: st) h := e_iald dX5_isFree_56 rfl ht hi
theorem wX5_isFree_57 : E_ d mX5_isFree 57 ls st h = E_ d mX5_isFree 58 ls (.int (nI 1) :: st) h := e_iconst dX5_isFree_57 kiconst_1 rfl
theorem wX5_isFree_58 : E_ d mX5_isFree 58 ls (.int y :: .int x :: st) h = if x = y then E_ d mX5_isFree 114 ls st h else E_ d mX5_isFree 61 ls st h := e_ieq dX5_isFree_58 rfl rfl
theorem wX5_isFree_61 : E_ d mX5_isFree 61 [.val (.ref a), s1, s2] st h = E_ d mX5_isFree 62 [.val (.ref a), s1, s2] (.ref a :: st) h := e_go dX5_isFree_61 rfl rfl
theorem wX5_isFree_62 : E_ d mX5_isFree 62 [s0, s1, .val (.int x)] st h = E_ d mX5_isFree 63 [s0, s1, .val (.int x)] (.int x :: st) h := e_go dX5_isFree_62 rfl rfl
theorem wX5_isFree_63 (ht : oT h a = 7) : E_ (d + 1) mX5_isFree 63 ls [.int x1, .ref a] h = (C_ d mX5_isHidden [.ref a, .int x1] h).bind fun r => E_ (d + 1) mX5_isFree 66 ls (xpu r.1 []) r.2 := e_vir dX5_isFree_63 rfl rfl rfl rfl rfl rfl (Nat.le_of_ble_eq_true rfl) (Nat.le_of_ble_eq_true rfl) ht
theorem wX5_isFree_66 : E_ d mX5_isFree 66 ls (.int x :: st) h = if x = 0 then E_ d mX5_isFree 72 ls st h else E_ d mX5_isFree 69 ls st h := e_zeq dX5_isFree_66 rfl rfl
theorem wX5_isFree_69 : E_ d mX5_isFree 69 ls st h = E_ d mX5_isFree 114 ls st h := e_gt dX5_isFree_69 rfl
theorem wX5_isFree_72 : E_ d mX5_isFree 72 [.val (.ref a), s1, s2] st h = E_ d mX5_isFree 73 [.val (.ref a), s1, s2] (.ref a :: st) h := e_go dX5_isFree_72 rfl rfl
theorem wX5_isFree_73 (ht : oT h a = 7) : E_ d mX5_isFree 73 ls (.ref a :: st) h = E_ d mX5_isFree 76 ls (va_rf (oR h a 18) :: st) h := e_getR0 dX5_isFree_73 rfl rfl ht
theorem wX5_isFree_76 : E_ d mX5_isFree 76 ls st h = E_ d mX5_isFree 77 ls (.int (nI 0) :: st) h := e_iconst dX5_isFree_76 kiconst_0 rfl
theorem wX5_isFree_77 : E_ d mX5_isFree 77 [s0, s1, .val (.int x)] st h = E_ d mX5_isFree 78 [s0, s1, .val (.int x)] (.int x :: st) h := e_go dX5_isFree_77 rfl rfl
theorem wX5_isFree_78 : E_ d mX5_isFree 78 ls (.int y :: .int x :: st) h = E_ d mX5_isFree 79 ls (.int (x + y) :: st) h := e_go dX5_isFree_78 rfl rfl
theorem wX5_isFree_79 (ht : oT h a = 40) (hi : xix x (oN h a) = true) : E_ d mX5_isFree 79 ls (.int x :: .ref a :: st) h = E_ d mX5_isFree 80 ls (.int (oI h a x.toNatClampNeg) :: st) h := e_iald dX5_isFree_79 rfl ht hi
theorem wX5_isFree_80 : E_ d mX5_isFree 80 [.val (.ref a), s1, s2] st h = E_ d mX5_isFree 81 [.val (.ref a), s1, s2] (.ref a :: st) h := e_go dX5_isFree_80 rfl rfl
theorem wX5_isFree_81 (ht : oT h a = 7) : E_ d mX5_isFree 81 ls (.ref a :: st) h = E_ d mX5_isFree 84 ls (va_rf (oR h a 18) :: st) h := e_getR0 dX5_isFree_81 rfl rfl ht
theorem wX5_isFree_84 : E_ d mX5_isFree 84 ls st h = E_ d mX5_isFree 86 ls (.int (nI 8) :: st) h := e_bipush dX5_isFree_84 kbipush_8 rfl
theorem wX5_isFree_86 : E_ d mX5_isFree 86 [s0, s1, .val (.int x)] st h = E_ d mX5_isFree 87 [s0, s1, .val (.int x)] (.int x :: st) h := e_go dX5_isFree_86 rfl rfl
theorem wX5_isFree_87 : E_ d mX5_isFree 87 ls (.int y :: .int x :: st) h = E_ d mX5_isFree 88 ls (.int (x + y) :: st) h := e_go dX5_isFree_87 rfl rfl
theorem wX5_isFree_88 (ht : oT h a = 40) (hi : xix x (oN h a) = true) : E_ d mX5_isFree 88 ls (.int x :: .ref a :: st) h = E_ d mX5_isFree 89 ls (.int (oI h a x.toNatClampNeg) :: st) h := e_iald dX5_isFree_88 rfl ht hi
theorem wX5_isFree_89 : E_ d mX5_isFree 89 ls (.int y :: .int x :: st) h = E_ d mX5_isFree 90 ls (.int (x + y) :: st) h := e_go dX5_isFree_89 rfl rfl
theorem wX5_isFree_90 : E_ d mX5_isFree 90 ls st h = E_ d mX5_isFree 91 ls (.int (nI 1) :: st) h := e_iconst dX5_isFree_90 kiconst_1 rfl
theorem wX5_isFree_91 : E_ d mX5_isFree 91 ls (.int y :: .int x :: st) h = E_ d mX5_isFree 92 ls (.int (x - y) :: st) h := e_go dX5_isFree_91 rfl rfl
theorem wX5_isFree_92 : E_ d mX5_isFree 92 [.val (.ref a), s1, s2] st h = E_ d mX5_isFree 93 [.val (.ref a), s1, s2] (.ref a :: st) h := e_go dX5_isFree_92 rfl rfl
theorem wX5_isFree_93 (ht : oT h a = 7) : E_ d mX5_isFree 93 ls (.ref a :: st) h = E_ d mX5_isFree 96 ls (va_rf (oR h a 18) :: st) h := e_getR0 dX5_isFree_93 rfl rfl ht
theorem wX5_isFree_96 : E_ d mX5_isFree 96 ls st h = E_ d mX5_isFree 98 ls (.int (nI 8) :: st) h := e_bipush dX5_isFree_96 kbipush_8 rfl
theorem wX5_isFree_98 : E_ d mX5_isFree 98 [s0, s1, .val (.int x)] st h = E_ d mX5_isFree 99 [s0, s1, .val (.int x)] (.int x :: st) h := e_go dX5_isFree_98 rfl rfl
theorem wX5_isFree_99 : E_ d mX5_isFree 99 ls (.int y :: .int x :: st) h = E_ d mX5_isFree 100 ls (.int (x + y) :: st) h := e_go dX5_isFree_99 rfl rfl
theorem wX5_isFree_100 (ht : oT h a = 40) (hi : xix x (oN h a) = true) : E_ d mX5_isFree 100 ls (.int x :: .ref a :: st) h = E_ d mX5_isFree 101 ls (.int (oI h a x.toNatClampNeg) :: st) h := e_iald dX5_isFree_100 rfl ht hi
theorem wX5_isFree_101 (hy : ¬ y = 0) : E_ d mX5_isFree 101 ls (.int y :: .int x :: st) h = E_ d mX5_isFree 102 ls (.int (x / y) :: st) h := e_div dX5_isFree_101 rfl hy
theorem wX5_isFree_102 : E_ d mX5_isFree 102 [.val (.ref a), s1, s2] st h = E_ d mX5_isFree 103 [.val (.ref a), s1, s2] (.ref a :: st) h := e_go dX5_isFree_102 rfl rfl
theorem wX5_isFree_103 (ht : oT h a = 7) : E_ d mX5_isFree 103 ls (.ref a :: st) h = E_ d mX5_isFree 106 ls (va_rf (oR h a 2) :: st) h := e_getR0 dX5_isFree_103 rfl rfl ht
theorem wX5_isFree_106 : E_ d mX5_isFree 106 ls st h = E_ d mX5_isFree 108 ls (.int (nI 36) :: st) h := e_bipush dX5_isFree_106 kbipush_36 rfl
theorem wX5_isFree_108 (ht : oT h a = 40) (hi : xix x (oN h a) = true) : E_ d mX5_isFree 108 ls (.int x :: .ref a :: st) h = E_ d mX5_isFree 109 ls (.int (oI h a x.toNatClampNeg) :: st) h := e_iald dX5_isFree_108 rfl ht hi
theorem wX5_isFree_109 : E_ d mX5_isFree 109 ls (.int y :: .int x :: st) h = if y < x then E_ d mX5_isFree 114 ls st h else E_ d mX5_isFree 112 ls st h := e_igt dX5_isFree_109 rfl rfl
theorem wX5_isFree_112 : E_ d mX5_isFree 112 ls st h = E_ d mX5_isFree 113 ls (.int (nI 0) :: st) h := e_iconst dX5_isFree_112 kiconst_0 rfl
theorem wX5_isFree_113 (hx : x = 0 ∨ x = 1) : E_ d mX5_isFree 113 ls [.int x] h = some (some (.int x), h) := e_rtZ dX5_isFree_113 rfl hx
theorem wX5_isFree_114 : E_ d mX5_isFree 114 [s0, s1, .val (.int x)] st h = E_ d mX5_isFree 117 [s0, xk s1, .val (.int (x + nI 1))] st h := by rw [← kiinc_1]; exact e_go dX5_isFree_114 rfl rfl
theorem wX5_isFree_117 : E_ d mX5_isFree 117 ls st h = E_ d mX5_isFree 2 ls st h := e_gt dX5_isFree_117 rfl
theorem wX5_isFree_120 : E_ d mX5_isFree 120 ls st h = E_ d mX5_isFree 121 ls (.int (nI 1) :: st) h := e_iconst dX5_isFree_120 kiconst_1 rfl
theorem wX5_isFree_121 (hx : x = 0 ∨ x = 1) : E_ d mX5_isFree 121 ls [.int x] h = some (some (.int x), h) := e_rtZ dX5_isFree_121 rfl hx
/-! FootOutModel.isHidden -/
theorem wX5_isHidden_0 : E_ d mX5_isHidden 0 ls st h = E_ d mX5_isHidden 1 ls (.int (nI 0) :: st) h := e_iconst dX5_isHidden_0 kiconst_0 rfl
theorem wX5_isHidden_1 : E_ d mX5_isHidden 1 [s0, s1, s2] (.int x :: st) h = E_ d mX5_isHidden 2 [s0, xk s1, .val (.int x)] st h := e_go dX5_isHidden_1 rfl rfl
theorem wX5_isHidden_2 : E_ d mX5_isHidden 2 [s0, s1, .val (.int x)] st h = E_ d mX5_isHidden 3 [s0, s1, .val (.int x)] (.int x :: st) h := e_go dX5_isHidden_2 rfl rfl
theorem wX5_isHidden_3 : E_ d mX5_isHidden 3 [.val (.ref a), s1, s2] st h = E_ d mX5_isHidden 4 [.val (.ref a), s1, s2] (.ref a :: st) h := e_go dX5_isHidden_3 rfl rfl
theorem wX5_isHidden_4 (ht : oT h a = 7) : E_ d mX5_isHidden 4 ls (.ref a :: st) h = E_ d mX5_isHidden 7 ls (va_rf (oR h a 2) :: st) h := e_getR0 dX5_isHidden_4 rfl rfl ht
theorem wX5_isHidden_7 : E_ d mX5_isHidden 7 ls st h = E_ d mX5_isHidden 8 ls (.int (nI 1) :: st) h := e_iconst dX5_isHidden_7 kiconst_1 rfl
theorem wX5_isHidden_8 (ht : oT h a = 40) (hi : xix x (oN h a) = true) : E_ d mX5_isHidden 8 ls (.int x :: .ref a :: st) h = E_ d mX5_isHidden 9 ls (.int (oI h a x.toNatClampNeg) :: st) h := e_iald dX5_isHidden_8 rfl ht hi
theorem wX5_isHidden_9 : E_ d mX5_isHidden 9 ls (.int y :: .int x :: st) h = if x < y then E_ d mX5_isHidden 12 ls st h else E_ d mX5_isHidden 116 ls st h := e_ige dX5_isHidden_9 rfl rfl
theorem wX5_isHidden_12 : E_ d mX5_isHidden 12 [.val (.ref a), s1, s2] st h = E_ d mX5_isHidden 13 [.val (.ref a), s1, s2] (.ref a :: st) h := e_go dX5_isHidden_12 rfl rfl
theorem wX5_isHidden_13 (ht : oT h a = 7) : E_ d mX5_isHidden 13 ls (.ref a :: st) h = E_ d mX5_isHidden 16 ls (va_rf (oR h a 2) :: st) h := e_getR0 dX5_isHidden_13 rfl rfl ht
theorem wX5_isHidden_16 : E_ d mX5_isHidden 16 ls st h = E_ d mX5_isHidden 17 ls (.int (nI 2) :: st) h := e_iconst dX5_isHidden_16 kiconst_2 rfl
theorem wX5_isHidden_17 : E_ d mX5_isHidden 17 [s0, s1, .val (.int x)] st h = E_ d mX5_isHidden 18 [s0, s1, .val (.int x)] (.int x :: st) h := e_go dX5_isHidden_17 rfl rfl
theorem wX5_isHidden_18 : E_ d mX5_isHidden 18 ls (.int y :: .int x :: st) h = E_ d mX5_isHidden 19 ls (.int (x + y) :: st) h := e_go dX5_isHidden_18 rfl rfl
theorem wX5_isHidden_19 (ht : oT h a = 40) (hi : xix x (oN h a) = true) : E_ d mX5_isHidden 19 ls (.int x :: .ref a :: st) h = E_ d mX5_isHidden 20 ls (.int (oI h a x.toNatClampNeg) :: st) h := e_iald dX5_isHidden_19 rfl ht hi
theorem wX5_isHidden_20 : E_ d mX5_isHidden 20 [.val (.ref a), s1, s2] st h = E_ d mX5_isHidden 21 [.val (.ref a), s1, s2] (.ref a :: st) h := e_go dX5_isHidden_20 rfl rfl
theorem wX5_isHidden_21 (ht : oT h a = 7) : E_ d mX5_isHidden 21 ls (.ref a :: st) h = E_ d mX5_isHidden 24 ls (va_rf (oR h a 2) :: st) h := e_getR0 dX5_isHidden_21 rfl rfl ht
theorem wX5_isHidden_24 : E_ d mX5_isHidden 24 ls st h = E_ d mX5_isHidden 25 ls (.int (nI 2) :: st) h := e_iconst dX5_isHidden_24 kiconst_2 rfl
theorem wX5_isHidden_25 : E_ d mX5_isHidden 25 [s0, .val (.int x), s2] st h = E_ d mX5_isHidden 26 [s0, .val (.int x), s2] (.int x :: st) h := e_go dX5_isHidden_25 rfl rfl
theorem wX5_isHidden_26 : E_ d mX5_isHidden 26 ls (.int y :: .int x :: st) h = E_ d mX5_isHidden 27 ls (.int (x + y) :: st) h := e_go dX5_isHidden_26 rfl rfl
theorem wX5_isHidden_27 (ht : oT h a = 40) (hi : xix x (oN h a) = true) : E_ d mX5_isHidden 27 ls (.int x :: .ref a :: st) h = E_ d mX5_isHidden 28 ls (.int (oI h a x.toNatClampNeg) :: st) h := e_iald dX5_isHidden_27 rfl ht hi
theorem wX5_isHidden_28 : E_ d mX5_isHidden 28 ls st h = E_ d mX5_isHidden 29 ls (.int (nI 1) :: st) h := e_iconst dX5_isHidden_28 kiconst_1 rfl
theorem wX5_isHidden_29 : E_ d mX5_isHidden 29 ls (.int y :: .int x :: st) h = E_ d mX5_isHidden 30 ls (.int (x - y) :: st) h := e_go dX5_isHidden_29 rfl rfl
theorem wX5_isHidden_30 : E_ d mX5_isHidden 30 ls (.int y :: .int x :: st) h = if x = y then E_ d mX5_isHidden 33 ls st h else E_ d mX5_isHidden 110 ls st h := e_ine dX5_isHidden_30 rfl rfl
theorem wX5_isHidden_33 : E_ d mX5_isHidden 33 [.val (.ref a), s1, s2] st h = E_ d mX5_isHidden 34 [.val (.ref a), s1, s2] (.ref a :: st) h := e_go dX5_isHidden_33 rfl rfl
theorem wX5_isHidden_34 (ht : oT h a = 7) : E_ d mX5_isHidden 34 ls (.ref a :: st) h = E_ d mX5_isHidden 37 ls (va_rf (oR h a 2) :: st) h := e_getR0 dX5_isHidden_34 rfl rfl ht
theorem wX5_isHidden_37 : E_ d mX5_isHidden 37 ls st h = E_ d mX5_isHidden 39 ls (.int (nI 26) :: st) h := e_bipush dX5_isHidden_37 kbipush_26 rfl
theorem wX5_isHidden_39 : E_ d mX5_isHidden 39 [s0, s1, .val (.int x)] st h = E_ d mX5_isHidden 40 [s0, s1, .val (.int x)] (.int x :: st) h := e_go dX5_isHidden_39 rfl rfl
theorem wX5_isHidden_40 : E_ d mX5_isHidden 40 ls (.int y :: .int x :: st) h = E_ d mX5_isHidden 41 ls (.int (x + y) :: st) h := e_go dX5_isHidden_40 rfl rfl
theorem wX5_isHidden_41 (ht : oT h a = 40) (hi : xix x (oN h a) = true) : E_ d mX5_isHidden 41 ls (.int x :: .ref a :: st) h = E_ d mX5_isHidden 42 ls (.int (oI h a x.toNatClampNeg) :: st) h := e_iald dX5_isHidden_41 rfl ht hi
theorem wX5_isHidden_42 : E_ d mX5_isHidden 42 ls (.int x :: st) h = if 0 < x then E_ d mX5_isHidden 45 ls st h else E_ d mX5_isHidden 110 ls st h := e_zle dX5_isHidden_42 rfl rfl
theorem wX5_isHidden_45 : E_ d mX5_isHidden 45 [.val (.ref a), s1, s2] st h = E_ d mX5_isHidden 46 [.val (.ref a), s1, s2] (.ref a :: st) h := e_go dX5_isHidden_45 rfl rfl
theorem wX5_isHidden_46 (ht : oT h a = 7) : E_ d mX5_isHidden 46 ls (.ref a :: st) h = E_ d mX5_isHidden 49 ls (va_rf (oR h a 18) :: st) h := e_getR0 dX5_isHidden_46 rfl rfl ht
theorem wX5_isHidden_49 : E_ d mX5_isHidden 49 ls st h = E_ d mX5_isHidden 51 ls (.int (nI 16) :: st) h := e_bipush dX5_isHidden_49 kbipush_16 rfl
theorem wX5_isHidden_51 : E_ d mX5_isHidden 51 [s0, s1, .val (.int x)] st h = E_ d mX5_isHidden 52 [s0, s1, .val (.int x)] (.int x :: st) h := e_go dX5_isHidden_51 rfl rfl
theorem wX5_isHidden_52 : E_ d mX5_isHidden 52 ls (.int y :: .int x :: st) h = E_ d mX5_isHidden 53 ls (.int (x + y) :: st) h := e_go dX5_isHidden_52 rfl rfl
theorem wX5_isHidden_53 (ht : oT h a = 40) (hi : xix x (oN h a) = true) : E_ d mX5_isHidden 53 ls (.int x :: .ref a :: st) h = E_ d mX5_isHidden 54 ls (.int (oI h a x.toNatClampNeg) :: st) h := e_iald dX5_isHidden_53 rfl ht hi
theorem wX5_isHidden_54 : E_ d mX5_isHidden 54 ls st h = E_ d mX5_isHidden 55 ls (.int (nI 2) :: st) h := e_iconst dX5_isHidden_54 kiconst_2 rfl
theorem wX5_isHidden_55 : E_ d mX5_isHidden 55 ls (.int y :: .int x :: st) h = if x = y then E_ d mX5_isHidden 58 ls st h else E_ d mX5_isHidden 110 ls st h := e_ine dX5_isHidden_55 rfl rfl
theorem wX5_isHidden_58 : E_ d mX5_isHidden 58 [.val (.ref a), s1, s2] st h = E_ d mX5_isHidden 59 [.val (.ref a), s1, s2] (.ref a :: st) h := e_go dX5_isHidden_58 rfl rfl
theorem wX5_isHidden_59 (ht : oT h a = 7) : E_ d mX5_isHidden 59 ls (.ref a :: st) h = E_ d mX5_isHidden 62 ls (va_rf (oR h a 18) :: st) h := e_getR0 dX5_isHidden_59 rfl rfl ht
theorem wX5_isHidden_62 : E_ d mX5_isHidden 62 ls st h = E_ d mX5_isHidden 64 ls (.int (nI 8) :: st) h := e_bipush dX5_isHidden_62 kbipush_8 rfl
theorem wX5_isHidden_64 : E_ d mX5_isHidden 64 [s0, s1, .val (.int x)] st h = E_ d mX5_isHidden 65 [s0, s1, .val (.int x)] (.int x :: st) h := e_go dX5_isHidden_64 rfl rfl
theorem wX5_isHidden_65 : E_ d mX5_isHidden 65 ls (.int y :: .int x :: st) h = E_ d mX5_isHidden 66 ls (.int (x + y) :: st) h := e_go dX5_isHidden_65 rfl rfl
theorem wX5_isHidden_66 (ht : oT h a = 40) (hi : xix x (oN h a) = true) : E_ d mX5_isHidden 66 ls (.int x :: .ref a :: st) h = E_ d mX5_isHidden 67 ls (.int (oI h a x.toNatClampNeg) :: st) h := e_iald dX5_isHidden_66 rfl ht hi
theorem wX5_isHidden_67 : E_ d mX5_isHidden 67 ls (.int x :: st) h = if x = 0 then E_ d mX5_isHidden 70 ls st h else E_ d mX5_isHidden 110 ls st h := e_zne dX5_isHidden_67 rfl rfl
theorem wX5_isHidden_70 : E_ d mX5_isHidden 70 [.val (.ref a), s1, s2] st h = E_ d mX5_isHidden 71 [.val (.ref a), s1, s2] (.ref a :: st) h := e_go dX5_isHidden_70 rfl rfl
theorem wX5_isHidden_71 (ht : oT h a = 7) : E_ d mX5_isHidden 71 ls (.ref a :: st) h = E_ d mX5_isHidden 74 ls (va_rf (oR h a 18) :: st) h := e_getR0 dX5_isHidden_71 rfl rfl ht
theorem wX5_isHidden_74 : E_ d mX5_isHidden 74 ls st h = E_ d mX5_isHidden 75 ls (.int (nI 0) :: st) h := e_iconst dX5_isHidden_74 kiconst_0 rfl
theorem wX5_isHidden_75 : E_ d mX5_isHidden 75 [s0, s1, .val (.int x)] st h = E_ d mX5_isHidden 76 [s0, s1, .val (.int x)] (.int x :: st) h := e_go dX5_isHidden_75 rfl rfl
theorem wX5_isHidden_76 : E_ d mX5_isHidden 76 ls (.int y :: .int x :: st) h = E_ d mX5_isHidden 77 ls (.int (x + y) :: st) h := e_go dX5_isHidden_76 rfl rfl
theorem wX5_isHidden_77 (ht : oT h a = 40) (hi : xix x (oN h a) = true) : E_ d mX5_isHidden 77 ls (.int x :: .ref a :: st) h = E_ d mX5_isHidden 78 ls (.int (oI h a x.toNatClampNeg) :: st) h := e_iald dX5_isHidden_77 rfl ht hi
theorem wX5_isHidden_78 : E_ d mX5_isHidden 78 ls (.int x :: st) h = E_ d mX5_isHidden 79 ls (.long x.toInt64 :: st) h := e_go dX5_isHidden_78 rfl rfl
theorem wX5_isHidden_79 : E_ d mX5_isHidden 79 ls st h = E_ d mX5_isHidden 80 ls (.long 1 :: st) h := e_go dX5_isHidden_79 rfl rfl
theorem wX5_isHidden_80 : E_ d mX5_isHidden 80 ls st h = E_ d mX5_isHidden 83 ls (.long (3) :: st) h := e_go dX5_isHidden_80 rfl rfl
theorem wX5_isHidden_83 : E_ (d + 1) mX5_isHidden 83 ls [.long u3, .long u2, .long u1] h = (C_ d mX5_within [.long u1, .long u2, .long u3] h).bind fun r => E_ (d + 1) mX5_isHidden 86 ls (xpu r.1 []) r.2 := e_call dX5_isHidden_83 rfl rfl
theorem wX5_isHidden_86 : E_ d mX5_isHidden 86 ls (.int x :: st) h = if x = 0 then E_ d mX5_isHidden 110 ls st h else E_ d mX5_isHidden 89 ls st h := e_zeq dX5_isHidden_86 rfl rfl
theorem wX5_isHidden_89 : E_ d mX5_isHidden 89 [.val (.ref a), s1, s2] st h = E_ d mX5_isHidden 90 [.val (.ref a), s1, s2] (.ref a :: st) h := e_go dX5_isHidden_89 rfl rfl
theorem wX5_isHidden_90 (ht : oT h a = 7) : E_ d mX5_isHidden 90 ls (.ref a :: st) h = E_ d mX5_isHidden 93 ls (va_rf (oR h a 18) :: st) h := e_getR0 dX5_isHidden_90 rfl rfl ht
theorem wX5_isHidden_93 : E_ d mX5_isHidden 93 ls st h = E_ d mX5_isHidden 94 ls (.int (nI 0) :: st) h := e_iconst dX5_isHidden_93 kiconst_0 rfl
theorem wX5_isHidden_94 : E_ d mX5_isHidden 94 [s0, s1, .val (.int x)] st h = E_ d mX5_isHidden 95 [s0, s1, .val (.int x)] (.int x :: st) h := e_go dX5_isHidden_94 rfl rfl
theorem wX5_isHidden_95 : E_ d mX5_isHidden 95 ls (.int y :: .int x :: st) h = E_ d mX5_isHidden 96 ls (.int (x + y) :: st) h := e_go dX5_isHidden_95 rfl rfl
theorem wX5_isHidden_96 (ht : oT h a = 40) (hi : xix x (oN h a) = true) : E_ d mX5_isHidden 96 ls (.int x :: .ref a :: st) h = E_ d mX5_isHidden 97 ls (.int (oI h a x.toNatClampNeg) :: st) h := e_iald dX5_isHidden_96 rfl ht hi
theorem wX5_isHidden_97 : E_ d mX5_isHidden 97 [.val (.ref a), s1, s2] st h = E_ d mX5_isHidden 98 [.val (.ref a), s1, s2] (.ref a :: st) h := e_go dX5_isHidden_97 rfl rfl
theorem wX5_isHidden_98 (ht : oT h a = 7) : E_ d mX5_isHidden 98 ls (.ref a :: st) h = E_ d mX5_isHidden 101 ls (va_rf (oR h a 18) :: st) h := e_getR0 dX5_isHidden_98 rfl rfl ht
theorem wX5_isHidden_101 : E_ d mX5_isHidden 101 ls st h = E_ d mX5_isHidden 102 ls (.int (nI 0) :: st) h := e_iconst dX5_isHidden_101 kiconst_0 rfl
theorem wX5_isHidden_102 : E_ d mX5_isHidden 102 [s0, .val (.int x), s2] st h = E_ d mX5_isHidden 103 [s0, .val (.int x), s2] (.int x :: st) h := e_go dX5_isHidden_102 rfl rfl
theorem wX5_isHidden_103 : E_ d mX5_isHidden 103 ls (.int y :: .int x :: st) h = E_ d mX5_isHidden 104 ls (.int (x + y) :: st) h := e_go dX5_isHidden_103 rfl rfl
theorem wX5_isHidden_104 (ht : oT h a = 40) (hi : xix x (oN h a) = true) : E_ d mX5_isHidden 104 ls (.int x :: .ref a :: st) h = E_ d mX5_isHidden 105 ls (.int (oI h a x.toNatClampNeg) :: st) h := e_iald dX5_isHidden_104 rfl ht hi
theorem wX5_isHidden_105 : E_ d mX5_isHidden 105 ls (.int y :: .int x :: st) h = if x < y then E_ d mX5_isHidden 108 ls st h else E_ d mX5_isHidden 110 ls st h := e_ige dX5_isHidden_105 rfl rfl
theorem wX5_isHidden_108 : E_ d mX5_isHidden 108 ls st h = E_ d mX5_isHidden 109 ls (.int (nI 1) :: st) h := e_iconst dX5_isHidden_108 kiconst_1 rfl
theorem wX5_isHidden_109 (hx : x = 0 ∨ x = 1) : E_ d mX5_isHidden 109 ls [.int x] h = some (some (.int x), h) := e_rtZ dX5_isHidden_109 rfl hx
theorem wX5_isHidden_110 : E_ d mX5_isHidden 110 [s0, s1, .val (.int x)] st h = E_ d mX5_isHidden 113 [s0, xk s1, .val (.int (x + nI 1))] st h := by rw [← kiinc_1]; exact e_go dX5_isHidden_110 rfl rfl
theorem wX5_isHidden_113 : E_ d mX5_isHidden 113 ls st h = E_ d mX5_isHidden 2 ls st h := e_gt dX5_isHidden_113 rfl
theorem wX5_isHidden_116 : E_ d mX5_isHidden 116 ls st h = E_ d mX5_isHidden 117 ls (.int (nI 0) :: st) h := e_iconst dX5_isHidden_116 kiconst_0 rfl
theorem wX5_isHidden_117 (hx : x = 0 ∨ x = 1) : E_ d mX5_isHidden 117 ls [.int x] h = some (some (.int x), h) := e_rtZ dX5_isHidden_117 rfl hx
/-! FootOutModel.carsGo -/
theorem wX5_carsGo_0 : E_ d mX5_carsGo 0 [.val (.ref a), s1, s2, s3, s4] st h = E_ d mX5_carsGo 1 [.val (.ref a), s1, s2, s3, s4] (.ref a :: st) h := e_go dX5_carsGo_0 rfl rfl
theorem wX5_carsGo_1 : E_ d mX5_carsGo 1 ls st h = E_ d mX5_carsGo 2 ls (.int ((-1)) :: st) h := e_iconst dX5_carsGo_1 kiconst_m1 rfl
theorem wX5_carsGo_2 (ht : oT h a = 7) : E_ d mX5_carsGo 2 ls (.int x :: .ref a :: st) h = E_ d mX5_carsGo 5 ls st (pI h a (va_up (oI h a) 26 x)) := e_putI dX5_carsGo_2 rfl rfl ht
theorem wX5_carsGo_5 : E_ d mX5_carsGo 5 ls st h = E_ d mX5_carsGo 6 ls (.int (nI 0) :: st) h := e_iconst dX5_carsGo_5 kiconst_0 rfl
theorem wX5_carsGo_6 : E_ d mX5_carsGo 6 [s0, s1, s2, s3, s4] (.int x :: st) h = E_ d mX5_carsGo 7 [xk s0, .val (.int x), s2, s3, s4] st h := e_go dX5_carsGo_6 rfl rfl
theorem wX5_carsGo_7 : E_ d mX5_carsGo 7 [s0, .val (.int x), s2, s3, s4] st h = E_ d mX5_carsGo 8 [s0, .val (.int x), s2, s3, s4] (.int x :: st) h := e_go dX5_carsGo_7 rfl rfl
theorem wX5_carsGo_8 : E_ d mX5_carsGo 8 ls st h = E_ d mX5_carsGo 10 ls (.int (nI 8) :: st) h := e_bipush dX5_carsGo_8 kbipush_8 rfl
theorem wX5_carsGo_10 : E_ d mX5_carsGo 10 ls (.int y :: .int x :: st) h = if x < y then E_ d mX5_carsGo 13 ls st h else E_ d mX5_carsGo 33 ls st h := e_ige dX5_carsGo_10 rfl rfl
theorem wX5_carsGo_13 : E_ d mX5_carsGo 13 [.val (.ref a), s1, s2, s3, s4] st h = E_ d mX5_carsGo 14 [.val (.ref a), s1, s2, s3, s4] (.ref a :: st) h := e_go dX5_carsGo_13 rfl rfl
theorem wX5_carsGo_14 (ht : oT h a = 7) : E_ d mX5_carsGo 14 ls (.ref a :: st) h = E_ d mX5_carsGo 17 ls (va_rf (oR h a 24) :: st) h := e_getR0 dX5_carsGo_14 rfl rfl ht
theorem wX5_carsGo_17 : E_ d mX5_carsGo 17 [s0, .val (.int x), s2, s3, s4] st h = E_ d mX5_carsGo 18 [s0, .val (.int x), s2, s3, s4] (.int x :: st) h := e_go dX5_carsGo_17 rfl rfl
theorem wX5_carsGo_18 : E_ d mX5_carsGo 18 ls st h = E_ d mX5_carsGo 19 ls (.int (nI 0) :: st) h := e_iconst dX5_carsGo_18 kiconst_0 rfl
theorem wX5_carsGo_19 (ht : oT h a = 41) (hi : xix x (oN h a) = true) : E_ d mX5_carsGo 19 ls (.int y :: .int x :: .ref a :: st) h = E_ d mX5_carsGo 20 ls st (pI h a (va_up (oI h a) x.toNatClampNeg (vp_nar .byte y))) := e_bast dX5_carsGo_19 rfl ht hi
theorem wX5_carsGo_19z (ht : oT h a = 42) (hi : xix x (oN h a) = true) : E_ d mX5_carsGo 19 ls (.int y :: .int x :: .ref a :: st) h = E_ d mX5_carsGo 20 ls st (pI h a (va_up (oI h a) x.toNatClampNeg (vp_nar .boolean y))) := e_zast dX5_carsGo_19 rfl ht hi
theorem wX5_carsGo_20 : E_ d mX5_carsGo 20 [.val (.ref a), s1, s2, s3, s4] st h = E_ d mX5_carsGo 21 [.val (.ref a), s1, s2, s3, s4] (.ref a :: st) h := e_go dX5_carsGo_20 rfl rfl
theorem wX5_carsGo_21 (ht : oT h a = 7) : E_ d mX5_carsGo 21 ls (.ref a :: st) h = E_ d mX5_carsGo 24 ls (va_rf (oR h a 25) :: st) h := e_getR0 dX5_carsGo_21 rfl rfl ht
theorem wX5_carsGo_24 : E_ d mX5_carsGo 24 [s0, .val (.int x), s2, s3, s4] st h = E_ d mX5_carsGo 25 [s0, .val (.int x), s2, s3, s4] (.int x :: st) h := e_go dX5_carsGo_24 rfl rfl
theorem wX5_carsGo_25 : E_ d mX5_carsGo 25 ls st h = E_ d mX5_carsGo 26 ls (.int (nI 0) :: st) h := e_iconst dX5_carsGo_25 kiconst_0 rfl
theorem wX5_carsGo_26 (ht : oT h a = 41) (hi : xix x (oN h a) = true) : E_ d mX5_carsGo 26 ls (.int y :: .int x :: .ref a :: st) h = E_ d mX5_carsGo 27 ls st (pI h a (va_up (oI h a) x.toNatClampNeg (vp_nar .byte y))) := e_bast dX5_carsGo_26 rfl ht hi
theorem wX5_carsGo_26z (ht : oT h a = 42) (hi : xix x (oN h a) = true) : E_ d mX5_carsGo 26 ls (.int y :: .int x :: .ref a :: st) h = E_ d mX5_carsGo 27 ls st (pI h a (va_up (oI h a) x.toNatClampNeg (vp_nar .boolean y))) := e_zast dX5_carsGo_26 rfl ht hi
theorem wX5_carsGo_27 : E_ d mX5_carsGo 27 [s0, .val (.int x), s2, s3, s4] st h = E_ d mX5_carsGo 30 [xk s0, .val (.int (x + nI 1)), s2, s3, s4] st h := by rw [← kiinc_1]; exact e_go dX5_carsGo_27 rfl rfl
theorem wX5_carsGo_30 : E_ d mX5_carsGo 30 ls st h = E_ d mX5_carsGo 7 ls st h := e_gt dX5_carsGo_30 rfl
theorem wX5_carsGo_33 : E_ d mX5_carsGo 33 ls st h = E_ d mX5_carsGo 34 ls (.int (nI 0) :: st) h := e_iconst dX5_carsGo_33 kiconst_0 rfl
theorem wX5_carsGo_34 : E_ d mX5_carsGo 34 [s0, s1, s2, s3, s4] (.int x :: st) h = E_ d mX5_carsGo 35 [xk s0, .val (.int x), s2, s3, s4] st h := e_go dX5_carsGo_34 rfl rfl
theorem wX5_carsGo_35 : E_ d mX5_carsGo 35 [s0, .val (.int x), s2, s3, s4] st h = E_ d mX5_carsGo 36 [s0, .val (.int x), s2, s3, s4] (.int x :: st) h := e_go dX5_carsGo_35 rfl rfl
theorem wX5_carsGo_36 : E_ d mX5_carsGo 36 [.val (.ref a), s1, s2, s3, s4] st h = E_ d mX5_carsGo 37 [.val (.ref a), s1, s2, s3, s4] (.ref a :: st) h := e_go dX5_carsGo_36 rfl rfl
theorem wX5_carsGo_37 (ht : oT h a = 7) : E_ d mX5_carsGo 37 ls (.ref a :: st) h = E_ d mX5_carsGo 40 ls (va_rf (oR h a 2) :: st) h := e_getR0 dX5_carsGo_37 rfl rfl ht
theorem wX5_carsGo_40 : E_ d mX5_carsGo 40 ls st h = E_ d mX5_carsGo 41 ls (.int (nI 0) :: st) h := e_iconst dX5_carsGo_40 kiconst_0 rfl
theorem wX5_carsGo_41 (ht : oT h a = 40) (hi : xix x (oN h a) = true) : E_ d mX5_carsGo 41 ls (.int x :: .ref a :: st) h = E_ d mX5_carsGo 42 ls (.int (oI h a x.toNatClampNeg) :: st) h := e_iald dX5_carsGo_41 rfl ht hi
theorem wX5_carsGo_42 : E_ d mX5_carsGo 42 ls (.int y :: .int x :: st) h = if x < y then E_ d mX5_carsGo 45 ls st h else E_ d mX5_carsGo 165 ls st h := e_ige dX5_carsGo_42 rfl rfl
theorem wX5_carsGo_45 : E_ d mX5_carsGo 45 ls st h = E_ d mX5_carsGo 46 ls (.int (nI 1) :: st) h := e_iconst dX5_carsGo_45 kiconst_1 rfl
theorem wX5_carsGo_46 : E_ d mX5_carsGo 46 [s0, s1, s2, s3, s4] (.int x :: st) h = E_ d mX5_carsGo 47 [s0, xk s1, .val (.int x), s3, s4] st h := e_go dX5_carsGo_46 rfl rfl
theorem wX5_carsGo_47 : E_ d mX5_carsGo 47 [s0, s1, .val (.int x), s3, s4] st h = E_ d mX5_carsGo 48 [s0, s1, .val (.int x), s3, s4] (.int x :: st) h := e_go dX5_carsGo_47 rfl rfl
theorem wX5_carsGo_48 : E_ d mX5_carsGo 48 ls (.int x :: st) h = if x = 0 then E_ d mX5_carsGo 159 ls st h else E_ d mX5_carsGo 51 ls st h := e_zeq dX5_carsGo_48 rfl rfl
theorem wX5_carsGo_51 : E_ d mX5_carsGo 51 ls st h = E_ d mX5_carsGo 52 ls (.int ((-1)) :: st) h := e_iconst dX5_carsGo_51 kiconst_m1 rfl
theorem wX5_carsGo_52 : E_ d mX5_carsGo 52 [s0, s1, s2, s3, s4] (.int x :: st) h = E_ d mX5_carsGo 53 [s0, s1, xk s2, .val (.int x), s4] st h := e_go dX5_carsGo_52 rfl rfl
theorem wX5_carsGo_53 : E_ d mX5_carsGo 53 ls st h = E_ d mX5_carsGo 54 ls (.int (nI 0) :: st) h := e_iconst dX5_carsGo_53 kiconst_0 rfl
theorem wX5_carsGo_54 : E_ d mX5_carsGo 54 [s0, s1, s2, s3, s4] (.int x :: st) h = E_ d mX5_carsGo 56 [s0, s1, s2, xk s3, .val (.int x)] st h := e_go dX5_carsGo_54 rfl rfl
theorem wX5_carsGo_56 : E_ d mX5_carsGo 56 [s0, s1, s2, s3, .val (.int x)] st h = E_ d mX5_carsGo 58 [s0, s1, s2, s3, .val (.int x)] (.int x :: st) h := e_go dX5_carsGo_56 rfl rfl
theorem wX5_carsGo_58 : E_ d mX5_carsGo 58 [.val (.ref a), s1, s2, s3, s4] st h = E_ d mX5_carsGo 59 [.val (.ref a), s1, s2, s3, s4] (.ref a :: st) h := e_go dX5_carsGo_58 rfl rfl
theorem wX5_carsGo_59 (ht : oT h a = 7) : E_ d mX5_carsGo 59 ls (.ref a :: st) h = E_ d mX5_carsGo 62 ls (va_rf (oR h a 2) :: st) h := e_getR0 dX5_carsGo_59 rfl rfl ht
theorem wX5_carsGo_62 : E_ d mX5_carsGo 62 ls st h = E_ d mX5_carsGo 63 ls (.int (nI 1) :: st) h := e_iconst dX5_carsGo_62 kiconst_1 rfl
theorem wX5_carsGo_63 (ht : oT h a = 40) (hi : xix x (oN h a) = true) : E_ d mX5_carsGo 63 ls (.int x :: .ref a :: st) h = E_ d mX5_carsGo 64 ls (.int (oI h a x.toNatClampNeg) :: st) h := e_iald dX5_carsGo_63 rfl ht hi
theorem wX5_carsGo_64 : E_ d mX5_carsGo 64 ls (.int y :: .int x :: st) h = if x < y then E_ d mX5_carsGo 67 ls st h else E_ d mX5_carsGo 136 ls st h := e_ige dX5_carsGo_64 rfl rfl
theorem wX5_carsGo_67 : E_ d mX5_carsGo 67 [.val (.ref a), s1, s2, s3, s4] st h = E_ d mX5_carsGo 68 [.val (.ref a), s1, s2, s3, s4] (.ref a :: st) h := e_go dX5_carsGo_67 rfl rfl
theorem wX5_carsGo_68 (ht : oT h a = 7) : E_ d mX5_carsGo 68 ls (.ref a :: st) h = E_ d mX5_carsGo 71 ls (va_rf (oR h a 2) :: st) h := e_getR0 dX5_carsGo_68 rfl rfl ht
theorem wX5_carsGo_71 : E_ d mX5_carsGo 71 ls st h = E_ d mX5_carsGo 72 ls (.int (nI 2) :: st) h := e_iconst dX5_carsGo_71 kiconst_2 rfl
theorem wX5_carsGo_72 : E_ d mX5_carsGo 72 [s0, s1, s2, s3, .val (.int x)] st h = E_ d mX5_carsGo 74 [s0, s1, s2, s3, .val (.int x)] (.int x :: st) h := e_go dX5_carsGo_72 rfl rfl
theorem wX5_carsGo_74 : E_ d mX5_carsGo 74 ls (.int y :: .int x :: st) h = E_ d mX5_carsGo 75 ls (.int (x + y) :: st) h := e_go dX5_carsGo_74 rfl rfl
theorem wX5_carsGo_75 (ht : oT h a = 40) (hi : xix x (oN h a) = true) : E_ d mX5_carsGo 75 ls (.int x :: .ref a :: st) h = E_ d mX5_carsGo 76 ls (.int (oI h a x.toNatClampNeg) :: st) h := e_iald dX5_carsGo_75 rfl ht hi
theorem wX5_carsGo_76 : E_ d mX5_carsGo 76 [s0, .val (.int x), s2, s3, s4] st h = E_ d mX5_carsGo 77 [s0, .val (.int x), s2, s3, s4] (.int x :: st) h := e_go dX5_carsGo_76 rfl rfl
theorem wX5_carsGo_77 : E_ d mX5_carsGo 77 ls (.int y :: .int x :: st) h = if x = y then E_ d mX5_carsGo 80 ls st h else E_ d mX5_carsGo 130 ls st h := e_ine dX5_carsGo_77 rfl rfl
theorem wX5_carsGo_80 : E_ d mX5_carsGo 80 [.val (.ref a), s1, s2, s3, s4] st h = E_ d mX5_carsGo 81 [.val (.ref a), s1, s2, s3, s4] (.ref a :: st) h := e_go dX5_carsGo_80 rfl rfl
theorem wX5_carsGo_81 (ht : oT h a = 7) : E_ d mX5_carsGo 81 ls (.ref a :: st) h = E_ d mX5_carsGo 84 ls (va_rf (oR h a 24) :: st) h := e_getR0 dX5_carsGo_81 rfl rfl ht
theorem wX5_carsGo_84 : E_ d mX5_carsGo 84 [s0, s1, s2, s3, .val (.int x)] st h = E_ d mX5_carsGo 86 [s0, s1, s2, s3, .val (.int x)] (.int x :: st) h := e_go dX5_carsGo_84 rfl rfl
theorem wX5_carsGo_86 (ht : oT h a = 41 ∨ oT h a = 42) (hi : xix x (oN h a) = true) : E_ d mX5_carsGo 86 ls (.int x :: .ref a :: st) h = E_ d mX5_carsGo 87 ls (.int (oI h a x.toNatClampNeg) :: st) h := e_bald dX5_carsGo_86 rfl ht hi
theorem wX5_carsGo_87 : E_ d mX5_carsGo 87 ls (.int x :: st) h = if x = 0 then E_ d mX5_carsGo 90 ls st h else E_ d mX5_carsGo 130 ls st h := e_zne dX5_carsGo_87 rfl rfl
theorem wX5_carsGo_90 : E_ d mX5_carsGo 90 [.val (.ref a), s1, s2, s3, s4] st h = E_ d mX5_carsGo 91 [.val (.ref a), s1, s2, s3, s4] (.ref a :: st) h := e_go dX5_carsGo_90 rfl rfl
theorem wX5_carsGo_91 (ht : oT h a = 7) : E_ d mX5_carsGo 91 ls (.ref a :: st) h = E_ d mX5_carsGo 94 ls (va_rf (oR h a 18) :: st) h := e_getR0 dX5_carsGo_91 rfl rfl ht
theorem wX5_carsGo_94 : E_ d mX5_carsGo 94 ls st h = E_ d mX5_carsGo 95 ls (.int (nI 0) :: st) h := e_iconst dX5_carsGo_94 kiconst_0 rfl
theorem wX5_carsGo_95 : E_ d mX5_carsGo 95 [s0, s1, s2, s3, .val (.int x)] st h = E_ d mX5_carsGo 97 [s0, s1, s2, s3, .val (.int x)] (.int x :: st) h := e_go dX5_carsGo_95 rfl rfl
theorem wX5_carsGo_97 : E_ d mX5_carsGo 97 ls (.int y :: .int x :: st) h = E_ d mX5_carsGo 98 ls (.int (x + y) :: st) h := e_go dX5_carsGo_97 rfl rfl
theorem wX5_carsGo_98 (ht : oT h a = 40) (hi : xix x (oN h a) = true) : E_ d mX5_carsGo 98 ls (.int x :: .ref a :: st) h = E_ d mX5_carsGo 99 ls (.int (oI h a x.toNatClampNeg) :: st) h := e_iald dX5_carsGo_98 rfl ht hi
theorem wX5_carsGo_99 : E_ d mX5_carsGo 99 ls (.int x :: st) h = if 0 < x then E_ d mX5_carsGo 102 ls st h else E_ d mX5_carsGo 130 ls st h := e_zle dX5_carsGo_99 rfl rfl
theorem wX5_carsGo_102 : E_ d mX5_carsGo 102 [s0, s1, s2, .val (.int x), s4] st h = E_ d mX5_carsGo 103 [s0, s1, s2, .val (.int x), s4] (.int x :: st) h := e_go dX5_carsGo_102 rfl rfl
theorem wX5_carsGo_103 : E_ d mX5_carsGo 103 ls st h = E_ d mX5_carsGo 104 ls (.int ((-1)) :: st) h := e_iconst dX5_carsGo_103 kiconst_m1 rfl
theorem wX5_carsGo_104 : E_ d mX5_carsGo 104 ls (.int y :: .int x :: st) h = if x = y then E_ d mX5_carsGo 127 ls st h else E_ d mX5_carsGo 107 ls st h := e_ieq dX5_carsGo_104 rfl rfl
theorem wX5_carsGo_107 : E_ d mX5_carsGo 107 [.val (.ref a), s1, s2, s3, s4] st h = E_ d mX5_carsGo 108 [.val (.ref a), s1, s2, s3, s4] (.ref a :: st) h := e_go dX5_carsGo_107 rfl rfl
theorem wX5_carsGo_108 (ht : oT h a = 7) : E_ d mX5_carsGo 108 ls (.ref a :: st) h = E_ d mX5_carsGo 111 ls (va_rf (oR h a 18) :: st) h := e_getR0 dX5_carsGo_108 rfl rfl ht
theorem wX5_carsGo_111 : E_ d mX5_carsGo 111 ls st h = E_ d mX5_carsGo 112 ls (.int (nI 0) :: st) h := e_iconst dX5_carsGo_111 kiconst_0 rfl
theorem wX5_carsGo_112 : E_ d mX5_carsGo 112 [s0, s1, s2, s3, .val (.int x)] st h = E_ d mX5_carsGo 114 [s0, s1, s2, s3, .val (.int x)] (.int x :: st) h := e_go dX5_carsGo_112 rfl rfl
theorem wX5_carsGo_114 : E_ d mX5_carsGo 114 ls (.int y :: .int x :: st) h = E_ d mX5_carsGo 115 ls (.int (x + y) :: st) h := e_go dX5_carsGo_114 rfl rfl
theorem wX5_carsGo_115 (ht : oT h a = 40) (hi : xix x (oN h a) = true) : E_ d mX5_carsGo 115 ls (.int x :: .ref a :: st) h = E_ d mX5_carsGo 116 ls (.int (oI h a x.toNatClampNeg) :: st) h := e_iald dX5_carsGo_115 rfl ht hi
theorem wX5_carsGo_116 : E_ d mX5_carsGo 116 [.val (.ref a), s1, s2, s3, s4] st h = E_ d mX5_carsGo 117 [.val (.ref a), s1, s2, s3, s4] (.ref a :: st) h := e_go dX5_carsGo_116 rfl rfl
theorem wX5_carsGo_117 (ht : oT h a = 7) : E_ d mX5_carsGo 117 ls (.ref a :: st) h = E_ d mX5_carsGo 120 ls (va_rf (oR h a 18) :: st) h := e_getR0 dX5_carsGo_117 rfl rfl ht
theorem wX5_carsGo_120 : E_ d mX5_carsGo 120 ls st h = E_ d mX5_carsGo 121 ls (.int (nI 0) :: st) h := e_iconst dX5_carsGo_120 kiconst_0 rfl
theorem wX5_carsGo_121 : E_ d mX5_carsGo 121 [s0, s1, s2, .val (.int x), s4] st h = E_ d mX5_carsGo 122 [s0, s1, s2, .val (.int x), s4] (.int x :: st) h := e_go dX5_carsGo_121 rfl rfl
theorem wX5_carsGo_122 : E_ d mX5_carsGo 122 ls (.int y :: .int x :: st) h = E_ d mX5_carsGo 123 ls (.int (x + y) :: st) h := e_go dX5_carsGo_122 rfl rfl
theorem wX5_carsGo_123 (ht : oT h a = 40) (hi : xix x (oN h a) = true) : E_ d mX5_carsGo 123 ls (.int x :: .ref a :: st) h = E_ d mX5_carsGo 124 ls (.int (oI h a x.toNatClampNeg) :: st) h := e_iald dX5_carsGo_123 rfl ht hi
theorem wX5_carsGo_124 : E_ d mX5_carsGo 124 ls (.int y :: .int x :: st) h = if x < y then E_ d mX5_carsGo 127 ls st h else E_ d mX5_carsGo 130 ls st h := e_ige dX5_carsGo_124 rfl rfl
theorem wX5_carsGo_127 : E_ d mX5_carsGo 127 [s0, s1, s2, s3, .val (.int x)] st h = E_ d mX5_carsGo 129 [s0, s1, s2, s3, .val (.int x)] (.int x :: st) h := e_go dX5_carsGo_127 rfl rfl
theorem wX5_carsGo_129 : E_ d mX5_carsGo 129 [s0, s1, s2, s3, s4] (.int x :: st) h = E_ d mX5_carsGo 130 [s0, s1, xk s2, .val (.int x), s4] st h := e_go dX5_carsGo_129 rfl rfl
theorem wX5_carsGo_130 : E_ d mX5_carsGo 130 [s0, s1, s2, s3, .val (.int x)] st h = E_ d mX5_carsGo 133 [s0, s1, s2, xk s3, .val (.int (x + nI 1))] st h := by rw [← kiinc_1]; exact e_go dX5_carsGo_130 rfl rfl
theorem wX5_carsGo_133 : E_ d mX5_carsGo 133 ls st h = E_ d mX5_carsGo 56 ls st h := e_gt dX5_carsGo_133 rfl
theorem wX5_carsGo_136 : E_ d mX5_carsGo 136 [s0, s1, s2, .val (.int x), s4] st h = E_ d mX5_carsGo 137 [s0, s1, s2, .val (.int x), s4] (.int x :: st) h := e_go dX5_carsGo_136 rfl rfl
theorem wX5_carsGo_137 : E_ d mX5_carsGo 137 ls st h = E_ d mX5_carsGo 138 ls (.int ((-1)) :: st) h := e_iconst dX5_carsGo_137 kiconst_m1 rfl
theorem wX5_carsGo_138 : E_ d mX5_carsGo 138 ls (.int y :: .int x :: st) h = if x = y then E_ d mX5_carsGo 145 ls st h else E_ d mX5_carsGo 141 ls st h := e_ieq dX5_carsGo_138 rfl rfl
theorem wX5_carsGo_141 : E_ d mX5_carsGo 141 ls st h = E_ d mX5_carsGo 142 ls (.int (nI 1) :: st) h := e_iconst dX5_carsGo_141 kiconst_1 rfl
theorem wX5_carsGo_142 : E_ d mX5_carsGo 142 ls st h = E_ d mX5_carsGo 146 ls st h := e_gt dX5_carsGo_142 rfl
theorem wX5_carsGo_145 : E_ d mX5_carsGo 145 ls st h = E_ d mX5_carsGo 146 ls (.int (nI 0) :: st) h := e_iconst dX5_carsGo_145 kiconst_0 rfl
theorem wX5_carsGo_146 : E_ d mX5_carsGo 146 [s0, s1, s2, s3, s4] (.int x :: st) h = E_ d mX5_carsGo 147 [s0, xk s1, .val (.int x), s3, s4] st h := e_go dX5_carsGo_146 rfl rfl
theorem wX5_carsGo_147 : E_ d mX5_carsGo 147 [s0, s1, .val (.int x), s3, s4] st h = E_ d mX5_carsGo 148 [s0, s1, .val (.int x), s3, s4] (.int x :: st) h := e_go dX5_carsGo_147 rfl rfl
theorem wX5_carsGo_148 : E_ d mX5_carsGo 148 ls (.int x :: st) h = if x = 0 then E_ d mX5_carsGo 156 ls st h else E_ d mX5_carsGo 151 ls st h := e_zeq dX5_carsGo_148 rfl rfl
theorem wX5_carsGo_151 : E_ d mX5_carsGo 151 [.val (.ref a), s1, s2, s3, s4] st h = E_ d mX5_carsGo 152 [.val (.ref a), s1, s2, s3, s4] (.ref a :: st) h := e_go dX5_carsGo_151 rfl rfl
theorem wX5_carsGo_152 : E_ d mX5_carsGo 152 [s0, s1, s2, .val (.int x), s4] st h = E_ d mX5_carsGo 153 [s0, s1, s2, .val (.int x), s4] (.int x :: st) h := e_go dX5_carsGo_152 rfl rfl
theorem wX5_carsGo_153 (ht : oT h a = 7) : E_ (d + 1) mX5_carsGo 153 ls [.int x1, .ref a] h = (C_ d mX5_goesOn [.ref a, .int x1] h).bind fun r => E_ (d + 1) mX5_carsGo 156 ls (xpu r.1 []) r.2 := e_vir dX5_carsGo_153 rfl rfl rfl rfl rfl rfl (Nat.le_of_ble_eq_true rfl) (Nat.le_of_ble_eq_true rfl) ht
theorem wX5_carsGo_156 : E_ d mX5_carsGo 156 ls st h = E_ d mX5_carsGo 47 ls st h := e_gt dX5_carsGo_156 rfl
theorem wX5_carsGo_159 : E_ d mX5_carsGo 159 [s0, .val (.int x), s2, s3, s4] st h = E_ d mX5_carsGo 162 [xk s0, .val (.int (x + nI 1)), s2, s3, s4] st h := by rw [← kiinc_1]; exact e_go dX5_carsGo_159 rfl rfl
theorem wX5_carsGo_162 : E_ d mX5_carsGo 162 ls st h = E_ d mX5_carsGo 35 ls st h := e_gt dX5_carsGo_162 rfl
theorem wX5_carsGo_165 : E_ d mX5_carsGo 165 ls st h = E_ d mX5_carsGo 166 ls (.int (nI 0) :: st) h := e_iconst dX5_carsGo_165 kiconst_0 rfl
theorem wX5_carsGo_166 : E_ d mX5_carsGo 166 [s0, s1, s2, s3, s4] (.int x :: st) h = E_ d mX5_carsGo 167 [xk s0, .val (.int x), s2, s3, s4] st h := e_go dX5_carsGo_166 rfl rfl
theorem wX5_carsGo_167 : E_ d mX5_carsGo 167 [s0, .val (.int x), s2, s3, s4] st h = E_ d mX5_carsGo 168 [s0, .val (.int x), s2, s3, s4] (.int x :: st) h := e_go dX5_carsGo_167 rfl rfl
theorem wX5_carsGo_168 : E_ d mX5_carsGo 168 ls st h = E_ d mX5_carsGo 170 ls (.int (nI 8) :: st) h := e_bipush dX5_carsGo_168 kbipush_8 rfl
theorem wX5_carsGo_170 : E_ d mX5_carsGo 170 ls (.int y :: .int x :: st) h = if x < y then E_ d mX5_carsGo 173 ls st h else E_ d mX5_carsGo 202 ls st h := e_ige dX5_carsGo_170 rfl rfl
theorem wX5_carsGo_173 : E_ d mX5_carsGo 173 [.val (.ref a), s1, s2, s3, s4] st h = E_ d mX5_carsGo 174 [.val (.ref a), s1, s2, s3, s4] (.ref a :: st) h := e_go dX5_carsGo_173 rfl rfl
theorem wX5_carsGo_174 (ht : oT h a = 7) : E_ d mX5_carsGo 174 ls (.ref a :: st) h = E_ d mX5_carsGo 177 ls (va_rf (oR h a 18) :: st) h := e_getR0 dX5_carsGo_174 rfl rfl ht
theorem wX5_carsGo_177 : E_ d mX5_carsGo 177 ls st h = E_ d mX5_carsGo 179 ls (.int (nI 24) :: st) h := e_bipush dX5_carsGo_177 kbipush_24 rfl
theorem wX5_carsGo_179 : E_ d mX5_carsGo 179 [s0, .val (.int x), s2, s3, s4] st h = E_ d mX5_carsGo 180 [s0, .val (.int x), s2, s3, s4] (.int x :: st) h := e_go dX5_carsGo_179 rfl rfl
theorem wX5_carsGo_180 : E_ d mX5_carsGo 180 ls (.int y :: .int x :: st) h = E_ d mX5_carsGo 181 ls (.int (x + y) :: st) h := e_go dX5_carsGo_180 rfl rfl
theorem wX5_carsGo_181 : E_ d mX5_carsGo 181 [.val (.ref a), s1, s2, s3, s4] st h = E_ d mX5_carsGo 182 [.val (.ref a), s1, s2, s3, s4] (.ref a :: st) h := e_go dX5_carsGo_181 rfl rfl
theorem wX5_carsGo_182 (ht : oT h a = 7) : E_ d mX5_carsGo 182 ls (.ref a :: st) h = E_ d mX5_carsGo 185 ls (va_rf (oR h a 25) :: st) h := e_getR0 dX5_carsGo_182 rfl rfl ht
theorem wX5_carsGo_185 : E_ d mX5_carsGo 185 [s0, .val (.int x), s2, s3, s4] st h = E_ d mX5_carsGo 186 [s0, .val (.int x), s2, s3, s4] (.int x :: st) h := e_go dX5_carsGo_185 rfl rfl
theorem wX5_carsGo_186 (ht : oT h a = 41 ∨ oT h a = 42) (hi : xix x (oN h a) = true) : E_ d mX5_carsGo 186 ls (.int x :: .ref a :: st) h = E_ d mX5_carsGo 187 ls (.int (oI h a x.toNatClampNeg) :: st) h := e_bald dX5_carsGo_186 rfl ht hi
theorem wX5_carsGo_187 : E_ d mX5_carsGo 187 ls (.int x :: st) h = if x = 0 then E_ d mX5_carsGo 194 ls st h else E_ d mX5_carsGo 190 ls st h := e_zeq dX5_carsGo_187 rfl rfl
theorem wX5_carsGo_190 : E_ d mX5_carsGo 190 ls st h = E_ d mX5_carsGo 191 ls (.int (nI 1) :: st) h := e_iconst dX5_carsGo_190 kiconst_1 rfl
theorem wX5_carsGo_191 : E_ d mX5_carsGo 191 ls st h = E_ d mX5_carsGo 195 ls st h := e_gt dX5_carsGo_191 rfl
theorem wX5_carsGo_194 : E_ d mX5_carsGo 194 ls st h = E_ d mX5_carsGo 195 ls (.int (nI 0) :: st) h := e_iconst dX5_carsGo_194 kiconst_0 rfl
theorem wX5_carsGo_195 (ht : oT h a = 40) (hi : xix x (oN h a) = true) : E_ d mX5_carsGo 195 ls (.int y :: .int x :: .ref a :: st) h = E_ d mX5_carsGo 196 ls st (pI h a (va_up (oI h a) x.toNatClampNeg y)) := e_iast dX5_carsGo_195 rfl ht hi
theorem wX5_carsGo_196 : E_ d mX5_carsGo 196 [s0, .val (.int x), s2, s3, s4] st h = E_ d mX5_carsGo 199 [xk s0, .val (.int (x + nI 1)), s2, s3, s4] st h := by rw [← kiinc_1]; exact e_go dX5_carsGo_196 rfl rfl
theorem wX5_carsGo_199 : E_ d mX5_carsGo 199 ls st h = E_ d mX5_carsGo 167 ls st h := e_gt dX5_carsGo_199 rfl
theorem wX5_carsGo_202 : E_ d mX5_carsGo 202 ls [] h = some (none, h) := e_rt dX5_carsGo_202 rfl rfl
/-! FootOutModel.goesOn -/
theorem wX5_goesOn_0 : E_ d mX5_goesOn 0 [.val (.ref a), s1, s2, s3, s4, s5] st h = E_ d mX5_goesOn 1 [.val (.ref a), s1, s2, s3, s4, s5] (.ref a :: st) h := e_go dX5_goesOn_0 rfl rfl
theorem wX5_goesOn_1 (ht : oT h a = 7) : E_ d mX5_goesOn 1 ls (.ref a :: st) h = E_ d mX5_goesOn 4 ls (va_rf (oR h a 18) :: st) h := e_getR0 dX5_goesOn_1 rfl rfl ht
theorem wX5_goesOn_4 : E_ d mX5_goesOn 4 ls st h = E_ d mX5_goesOn 5 ls (.int (nI 0) :: st) h := e_iconst dX5_goesOn_4 kiconst_0 rfl
theorem wX5_goesOn_5 : E_ d mX5_goesOn 5 [s0, .val (.int x), s2, s3, s4, s5] st h = E_ d mX5_goesOn 6 [s0, .val (.int x), s2, s3, s4, s5] (.int x :: st) h := e_go dX5_goesOn_5 rfl rfl
theorem wX5_goesOn_6 : E_ d mX5_goesOn 6 ls (.int y :: .int x :: st) h = E_ d mX5_goesOn 7 ls (.int (x + y) :: st) h := e_go dX5_goesOn_6 rfl rfl
theorem wX5_goesOn_7 (ht : oT h a = 40) (hi : xix x (oN h a) = true) : E_ d mX5_goesOn 7 ls (.int x :: .ref a :: st) h = E_ d mX5_goesOn 8 ls (.int (oI h a x.toNatClampNeg) :: st) h := e_iald dX5_goesOn_7 rfl ht hi
theorem wX5_goesOn_8 : E_ d mX5_goesOn 8 [s0, s1, s2, s3, s4, s5] (.int x :: st) h = E_ d mX5_goesOn 9 [s0, xk s1, .val (.int x), s3, s4, s5] st h := e_go dX5_goesOn_8 rfl rfl
theorem wX5_goesOn_9 : E_ d mX5_goesOn 9 [.val (.ref a), s1, s2, s3, s4, s5] st h = E_ d mX5_goesOn 10 [.val (.ref a), s1, s2, s3, s4, s5] (.ref a :: st) h := e_go dX5_goesOn_9 rfl rfl
theorem wX5_goesOn_10 (ht : oT h a = 7) : E_ d mX5_goesOn 10 ls (.ref a :: st) h = E_ d mX5_goesOn 13 ls (va_rf (oR h a 18) :: st) h := e_getR0 dX5_goesOn_10 rfl rfl ht
theorem wX5_goesOn_13 : E_ d mX5_goesOn 13 ls st h = E_ d mX5_goesOn 15 ls (.int (nI 16) :: st) h := e_bipush dX5_goesOn_13 kbipush_16 rfl
theorem wX5_goesOn_15 : E_ d mX5_goesOn 15 [s0, .val (.int x), s2, s3, s4, s5] st h = E_ d mX5_goesOn 16 [s0, .val (.int x), s2, s3, s4, s5] (.int x :: st) h := e_go dX5_goesOn_15 rfl rfl
theorem wX5_goesOn_16 : E_ d mX5_goesOn 16 ls (.int y :: .int x :: st) h = E_ d mX5_goesOn 17 ls (.int (x + y) :: st) h := e_go dX5_goesOn_16 rfl rfl
theorem wX5_goesOn_17 (ht : oT h a = 40) (hi : xix x (oN h a) = true) : E_ d mX5_goesOn 17 ls (.int x :: .ref a :: st) h = E_ d mX5_goesOn 18 ls (.int (oI h a x.toNatClampNeg) :: st) h := e_iald dX5_goesOn_17 rfl ht hi
theorem wX5_goesOn_18 : E_ d mX5_goesOn 18 ls st h = E_ d mX5_goesOn 19 ls (.int (nI 2) :: st) h := e_iconst dX5_goesOn_18 kiconst_2 rfl
theorem wX5_goesOn_19 : E_ d mX5_goesOn 19 ls (.int y :: .int x :: st) h = if x = y then E_ d mX5_goesOn 22 ls st h else E_ d mX5_goesOn 81 ls st h := e_ine dX5_goesOn_19 rfl rfl
theorem wX5_goesOn_22 : E_ d mX5_goesOn 22 [.val (.ref a), s1, s2, s3, s4, s5] st h = E_ d mX5_goesOn 23 [.val (.ref a), s1, s2, s3, s4, s5] (.ref a :: st) h := e_go dX5_goesOn_22 rfl rfl
theorem wX5_goesOn_23 (ht : oT h a = 7) : E_ d mX5_goesOn 23 ls (.ref a :: st) h = E_ d mX5_goesOn 26 ls (va_rf (oR h a 18) :: st) h := e_getR0 dX5_goesOn_23 rfl rfl ht
theorem wX5_goesOn_26 : E_ d mX5_goesOn 26 ls st h = E_ d mX5_goesOn 28 ls (.int (nI 8) :: st) h := e_bipush dX5_goesOn_26 kbipush_8 rfl
theorem wX5_goesOn_28 : E_ d mX5_goesOn 28 [s0, .val (.int x), s2, s3, s4, s5] st h = E_ d mX5_goesOn 29 [s0, .val (.int x), s2, s3, s4, s5] (.int x :: st) h := e_go dX5_goesOn_28 rfl rfl
theorem wX5_goesOn_29 : E_ d mX5_goesOn 29 ls (.int y :: .int x :: st) h = E_ d mX5_goesOn 30 ls (.int (x + y) :: st) h := e_go dX5_goesOn_29 rfl rfl
theorem wX5_goesOn_30 : E_ d mX5_goesOn 30 [.val (.ref a), s1, s2, s3, s4, s5] st h = E_ d mX5_goesOn 31 [.val (.ref a), s1, s2, s3, s4, s5] (.ref a :: st) h := e_go dX5_goesOn_30 rfl rfl
theorem wX5_goesOn_31 (ht : oT h a = 7) : E_ d mX5_goesOn 31 ls (.ref a :: st) h = E_ d mX5_goesOn 34 ls (va_rf (oR h a 18) :: st) h := e_getR0 dX5_goesOn_31 rfl rfl ht
theorem wX5_goesOn_34 : E_ d mX5_goesOn 34 ls st h = E_ d mX5_goesOn 36 ls (.int (nI 8) :: st) h := e_bipush dX5_goesOn_34 kbipush_8 rfl
theorem wX5_goesOn_36 : E_ d mX5_goesOn 36 [s0, .val (.int x), s2, s3, s4, s5] st h = E_ d mX5_goesOn 37 [s0, .val (.int x), s2, s3, s4, s5] (.int x :: st) h := e_go dX5_goesOn_36 rfl rfl
theorem wX5_goesOn_37 : E_ d mX5_goesOn 37 ls (.int y :: .int x :: st) h = E_ d mX5_goesOn 38 ls (.int (x + y) :: st) h := e_go dX5_goesOn_37 rfl rfl
theorem wX5_goesOn_38 (ht : oT h a = 40) (hi : xix x (oN h a) = true) : E_ d mX5_goesOn 38 ls (.int x :: .ref a :: st) h = E_ d mX5_goesOn 39 ls (.int (oI h a x.toNatClampNeg) :: st) h := e_iald dX5_goesOn_38 rfl ht hi
theorem wX5_goesOn_39 : E_ d mX5_goesOn 39 ls (.int x :: st) h = if 0 < x then E_ d mX5_goesOn 42 ls st h else E_ d mX5_goesOn 56 ls st h := e_zle dX5_goesOn_39 rfl rfl
theorem wX5_goesOn_42 : E_ d mX5_goesOn 42 [.val (.ref a), s1, s2, s3, s4, s5] st h = E_ d mX5_goesOn 43 [.val (.ref a), s1, s2, s3, s4, s5] (.ref a :: st) h := e_go dX5_goesOn_42 rfl rfl
theorem wX5_goesOn_43 (ht : oT h a = 7) : E_ d mX5_goesOn 43 ls (.ref a :: st) h = E_ d mX5_goesOn 46 ls (va_rf (oR h a 18) :: st) h := e_getR0 dX5_goesOn_43 rfl rfl ht
theorem wX5_goesOn_46 : E_ d mX5_goesOn 46 ls st h = E_ d mX5_goesOn 48 ls (.int (nI 8) :: st) h := e_bipush dX5_goesOn_46 kbipush_8 rfl
theorem wX5_goesOn_48 : E_ d mX5_goesOn 48 [s0, .val (.int x), s2, s3, s4, s5] st h = E_ d mX5_goesOn 49 [s0, .val (.int x), s2, s3, s4, s5] (.int x :: st) h := e_go dX5_goesOn_48 rfl rfl
theorem wX5_goesOn_49 : E_ d mX5_goesOn 49 ls (.int y :: .int x :: st) h = E_ d mX5_goesOn 50 ls (.int (x + y) :: st) h := e_go dX5_goesOn_49 rfl rfl
theorem wX5_goesOn_50 (ht : oT h a = 40) (hi : xix x (oN h a) = true) : E_ d mX5_goesOn 50 ls (.int x :: .ref a :: st) h = E_ d mX5_goesOn 51 ls (.int (oI h a x.toNatClampNeg) :: st) h := e_iald dX5_goesOn_50 rfl ht hi
theorem wX5_goesOn_51 : E_ d mX5_goesOn 51 ls st h = E_ d mX5_goesOn 52 ls (.int (nI 1) :: st) h := e_iconst dX5_goesOn_51 kiconst_1 rfl
theorem wX5_goesOn_52 : E_ d mX5_goesOn 52 ls (.int y :: .int x :: st) h = E_ d mX5_goesOn 53 ls (.int (x - y) :: st) h := e_go dX5_goesOn_52 rfl rfl
theorem wX5_goesOn_53 : E_ d mX5_goesOn 53 ls st h = E_ d mX5_goesOn 57 ls st h := e_gt dX5_goesOn_53 rfl
theorem wX5_goesOn_56 : E_ d mX5_goesOn 56 ls st h = E_ d mX5_goesOn 57 ls (.int (nI 0) :: st) h := e_iconst dX5_goesOn_56 kiconst_0 rfl
theorem wX5_goesOn_57 (ht : oT h a = 40) (hi : xix x (oN h a) = true) : E_ d mX5_goesOn 57 ls (.int y :: .int x :: .ref a :: st) h = E_ d mX5_goesOn 58 ls st (pI h a (va_up (oI h a) x.toNatClampNeg y)) := e_iast dX5_goesOn_57 rfl ht hi
theorem wX5_goesOn_58 : E_ d mX5_goesOn 58 [.val (.ref a), s1, s2, s3, s4, s5] st h = E_ d mX5_goesOn 59 [.val (.ref a), s1, s2, s3, s4, s5] (.ref a :: st) h := e_go dX5_goesOn_58 rfl rfl
theorem wX5_goesOn_59 (ht : oT h a = 7) : E_ d mX5_goesOn 59 ls (.ref a :: st) h = E_ d mX5_goesOn 62 ls (va_rf (oR h a 18) :: st) h := e_getR0 dX5_goesOn_59 rfl rfl ht
theorem wX5_goesOn_62 : E_ d mX5_goesOn 62 ls st h = E_ d mX5_goesOn 63 ls (.int (nI 0) :: st) h := e_iconst dX5_goesOn_62 kiconst_0 rfl
theorem wX5_goesOn_63 : E_ d mX5_goesOn 63 [s0, .val (.int x), s2, s3, s4, s5] st h = E_ d mX5_goesOn 64 [s0, .val (.int x), s2, s3, s4, s5] (.int x :: st) h := e_go dX5_goesOn_63 rfl rfl
theorem wX5_goesOn_64 : E_ d mX5_goesOn 64 ls (.int y :: .int x :: st) h = E_ d mX5_goesOn 65 ls (.int (x + y) :: st) h := e_go dX5_goesOn_64 rfl rfl
theorem wX5_goesOn_65 : E_ d mX5_goesOn 65 ls (.int x :: .ref b :: st) h = E_ d mX5_goesOn 66 ls (.int x :: .ref b :: .int x :: .ref b :: st) h := e_go dX5_goesOn_65 rfl rfl
theorem wX5_goesOn_66 (ht : oT h a = 40) (hi : xix x (oN h a) = true) : E_ d mX5_goesOn 66 ls (.int x :: .ref a :: st) h = E_ d mX5_goesOn 67 ls (.int (oI h a x.toNatClampNeg) :: st) h := e_iald dX5_goesOn_66 rfl ht hi
theorem wX5_goesOn_67 : E_ d mX5_goesOn 67 [.val (.ref a), s1, s2, s3, s4, s5] st h = E_ d mX5_goesOn 68 [.val (.ref a), s1, s2, s3, s4, s5] (.ref a :: st) h := e_go dX5_goesOn_67 rfl rfl
theorem wX5_goesOn_68 (ht : oT h a = 7) : E_ d mX5_goesOn 68 ls (.ref a :: st) h = E_ d mX5_goesOn 71 ls (va_rf (oR h a 18) :: st) h := e_getR0 dX5_goesOn_68 rfl rfl ht
theorem wX5_goesOn_71 : E_ d mX5_goesOn 71 ls st h = E_ d mX5_goesOn 73 ls (.int (nI 8) :: st) h := e_bipush dX5_goesOn_71 kbipush_8 rfl
theorem wX5_goesOn_73 : E_ d mX5_goesOn 73 [s0, .val (.int x), s2, s3, s4, s5] st h = E_ d mX5_goesOn 74 [s0, .val (.int x), s2, s3, s4, s5] (.int x :: st) h := e_go dX5_goesOn_73 rfl rfl
theorem wX5_goesOn_74 : E_ d mX5_goesOn 74 ls (.int y :: .int x :: st) h = E_ d mX5_goesOn 75 ls (.int (x + y) :: st) h := e_go dX5_goesOn_74 rfl rfl
theorem wX5_goesOn_75 (ht : oT h a = 40) (hi : xix x (oN h a) = true) : E_ d mX5_goesOn 75 ls (.int x :: .ref a :: st) h = E_ d mX5_goesOn 76 ls (.int (oI h a x.toNatClampNeg) :: st) h := e_iald dX5_goesOn_75 rfl ht hi
theorem wX5_goesOn_76 : E_ d mX5_goesOn 76 ls (.int y :: .int x :: st) h = E_ d mX5_goesOn 77 ls (.int (x - y) :: st) h := e_go dX5_goesOn_76 rfl rfl
theorem wX5_goesOn_77 (ht : oT h a = 40) (hi : xix x (oN h a) = true) : E_ d mX5_goesOn 77 ls (.int y :: .int x :: .ref a :: st) h = E_ d mX5_goesOn 78 ls st (pI h a (va_up (oI h a) x.toNatClampNeg y)) := e_iast dX5_goesOn_77 rfl ht hi
theorem wX5_goesOn_78 : E_ d mX5_goesOn 78 ls st h = E_ d mX5_goesOn 274 ls st h := e_gt dX5_goesOn_78 rfl
theorem wX5_goesOn_81 : E_ d mX5_goesOn 81 [s0, s1, .val (.int x), s3, s4, s5] st h = E_ d mX5_goesOn 82 [s0, s1, .val (.int x), s3, s4, s5] (.int x :: st) h := e_go dX5_goesOn_81 rfl rfl
theorem wX5_goesOn_82 : E_ d mX5_goesOn 82 [.val (.ref a), s1, s2, s3, s4, s5] st h = E_ d mX5_goesOn 83 [.val (.ref a), s1, s2, s3, s4, s5] (.ref a :: st) h := e_go dX5_goesOn_82 rfl rfl
theorem wX5_goesOn_83 (ht : oT h a = 7) : E_ d mX5_goesOn 83 ls (.ref a :: st) h = E_ d mX5_goesOn 86 ls (va_rf (oR h a 18) :: st) h := e_getR0 dX5_goesOn_83 rfl rfl ht
theorem wX5_goesOn_86 : E_ d mX5_goesOn 86 ls st h = E_ d mX5_goesOn 88 ls (.int (nI 8) :: st) h := e_bipush dX5_goesOn_86 kbipush_8 rfl
theorem wX5_goesOn_88 : E_ d mX5_goesOn 88 [s0, .val (.int x), s2, s3, s4, s5] st h = E_ d mX5_goesOn 89 [s0, .val (.int x), s2, s3, s4, s5] (.int x :: st) h := e_go dX5_goesOn_88 rfl rfl
theorem wX5_goesOn_89 : E_ d mX5_goesOn 89 ls (.int y :: .int x :: st) h = E_ d mX5_goesOn 90 ls (.int (x + y) :: st) h := e_go dX5_goesOn_89 rfl rfl
theorem wX5_goesOn_90 (ht : oT h a = 40) (hi : xix x (oN h a) = true) : E_ d mX5_goesOn 90 ls (.int x :: .ref a :: st) h = E_ d mX5_goesOn 91 ls (.int (oI h a x.toNatClampNeg) :: st) h := e_iald dX5_goesOn_90 rfl ht hi
theorem wX5_goesOn_91 : E_ d mX5_goesOn 91 ls (.int y :: .int x :: st) h = E_ d mX5_goesOn 92 ls (.int (x - y) :: st) h := e_go dX5_goesOn_91 rfl rfl
theorem wX5_goesOn_92 : E_ d mX5_goesOn 92 [s0, s1, s2, s3, s4, s5] (.int x :: st) h = E_ d mX5_goesOn 93 [s0, s1, xk s2, .val (.int x), s4, s5] st h := e_go dX5_goesOn_92 rfl rfl
theorem wX5_goesOn_93 : E_ d mX5_goesOn 93 ls st h = E_ d mX5_goesOn 94 ls (.int ((-1)) :: st) h := e_iconst dX5_goesOn_93 kiconst_m1 rfl
theorem wX5_goesOn_94 : E_ d mX5_goesOn 94 [s0, s1, s2, s3, s4, s5] (.int x :: st) h = E_ d mX5_goesOn 96 [s0, s1, s2, xk s3, .val (.int x), s5] st h := e_go dX5_goesOn_94 rfl rfl
theorem wX5_goesOn_96 : E_ d mX5_goesOn 96 ls st h = E_ d mX5_goesOn 97 ls (.int (nI 0) :: st) h := e_iconst dX5_goesOn_96 kiconst_0 rfl
theorem wX5_goesOn_97 : E_ d mX5_goesOn 97 [s0, s1, s2, s3, s4, s5] (.int x :: st) h = E_ d mX5_goesOn 99 [s0, s1, s2, s3, xk s4, .val (.int x)] st h := e_go dX5_goesOn_97 rfl rfl
theorem wX5_goesOn_99 : E_ d mX5_goesOn 99 [s0, s1, s2, s3, s4, .val (.int x)] st h = E_ d mX5_goesOn 101 [s0, s1, s2, s3, s4, .val (.int x)] (.int x :: st) h := e_go dX5_goesOn_99 rfl rfl
theorem wX5_goesOn_101 : E_ d mX5_goesOn 101 [.val (.ref a), s1, s2, s3, s4, s5] st h = E_ d mX5_goesOn 102 [.val (.ref a), s1, s2, s3, s4, s5] (.ref a :: st) h := e_go dX5_goesOn_101 rfl rfl
theorem wX5_goesOn_102 (ht : oT h a = 7) : E_ d mX5_goesOn 102 ls (.ref a :: st) h = E_ d mX5_goesOn 105 ls (va_rf (oR h a 2) :: st) h := e_getR0 dX5_goesOn_102 rfl rfl ht
theorem wX5_goesOn_105 : E_ d mX5_goesOn 105 ls st h = E_ d mX5_goesOn 106 ls (.int (nI 1) :: st) h := e_iconst dX5_goesOn_105 kiconst_1 rfl
theorem wX5_goesOn_106 (ht : oT h a = 40) (hi : xix x (oN h a) = true) : E_ d mX5_goesOn 106 ls (.int x :: .ref a :: st) h = E_ d mX5_goesOn 107 ls (.int (oI h a x.toNatClampNeg) :: st) h := e_iald dX5_goesOn_106 rfl ht hi
theorem wX5_goesOn_107 : E_ d mX5_goesOn 107 ls (.int y :: .int x :: st) h = if x < y then E_ d mX5_goesOn 110 ls st h else E_ d mX5_goesOn 207 ls st h := e_ige dX5_goesOn_107 rfl rfl
theorem wX5_goesOn_110 : E_ d mX5_goesOn 110 [.val (.ref a), s1, s2, s3, s4, s5] st h = E_ d mX5_goesOn 111 [.val (.ref a), s1, s2, s3, s4, s5] (.ref a :: st) h := e_go dX5_goesOn_110 rfl rfl
theorem wX5_goesOn_111 (ht : oT h a = 7) : E_ d mX5_goesOn 111 ls (.ref a :: st) h = E_ d mX5_goesOn 114 ls (va_rf (oR h a 24) :: st) h := e_getR0 dX5_goesOn_111 rfl rfl ht
theorem wX5_goesOn_114 : E_ d mX5_goesOn 114 [s0, s1, s2, s3, s4, .val (.int x)] st h = E_ d mX5_goesOn 116 [s0, s1, s2, s3, s4, .val (.int x)] (.int x :: st) h := e_go dX5_goesOn_114 rfl rfl
theorem wX5_goesOn_116 (ht : oT h a = 41 ∨ oT h a = 42) (hi : xix x (oN h a) = true) : E_ d mX5_goesOn 116 ls (.int x :: .ref a :: st) h = E_ d mX5_goesOn 117 ls (.int (oI h a x.toNatClampNeg) :: st) h := e_bald dX5_goesOn_116 rfl ht hi
theorem wX5_goesOn_117 : E_ d mX5_goesOn 117 ls (.int x :: st) h = if x = 0 then E_ d mX5_goesOn 201 ls st h else E_ d mX5_goesOn 120 ls st h := e_zeq dX5_goesOn_117 rfl rfl
theorem wX5_goesOn_120 : E_ d mX5_goesOn 120 [.val (.ref a), s1, s2, s3, s4, s5] st h = E_ d mX5_goesOn 121 [.val (.ref a), s1, s2, s3, s4, s5] (.ref a :: st) h := e_go dX5_goesOn_120 rfl rfl
theorem wX5_goesOn_121 (ht : oT h a = 7) : E_ d mX5_goesOn 121 ls (.ref a :: st) h = E_ d mX5_goesOn 124 ls (va_rf (oR h a 2) :: st) h := e_getR0 dX5_goesOn_121 rfl rfl ht
theorem wX5_goesOn_124 : E_ d mX5_goesOn 124 ls st h = E_ d mX5_goesOn 125 ls (.int (nI 2) :: st) h := e_iconst dX5_goesOn_124 kiconst_2 rfl
theorem wX5_goesOn_125 : E_ d mX5_goesOn 125 [s0, s1, s2, s3, s4, .val (.int x)] st h = E_ d mX5_goesOn 127 [s0, s1, s2, s3, s4, .val (.int x)] (.int x :: st) h := e_go dX5_goesOn_125 rfl rfl
theorem wX5_goesOn_127 : E_ d mX5_goesOn 127 ls (.int y :: .int x :: st) h = E_ d mX5_goesOn 128 ls (.int (x + y) :: st) h := e_go dX5_goesOn_127 rfl rfl
theorem wX5_goesOn_128 (ht : oT h a = 40) (hi : xix x (oN h a) = true) : E_ d mX5_goesOn 128 ls (.int x :: .ref a :: st) h = E_ d mX5_goesOn 129 ls (.int (oI h a x.toNatClampNeg) :: st) h := e_iald dX5_goesOn_128 rfl ht hi
theorem wX5_goesOn_129 : E_ d mX5_goesOn 129 [.val (.ref a), s1, s2, s3, s4, s5] st h = E_ d mX5_goesOn 130 [.val (.ref a), s1, s2, s3, s4, s5] (.ref a :: st) h := e_go dX5_goesOn_129 rfl rfl
theorem wX5_goesOn_130 (ht : oT h a = 7) : E_ d mX5_goesOn 130 ls (.ref a :: st) h = E_ d mX5_goesOn 133 ls (va_rf (oR h a 2) :: st) h := e_getR0 dX5_goesOn_130 rfl rfl ht
theorem wX5_goesOn_133 : E_ d mX5_goesOn 133 ls st h = E_ d mX5_goesOn 134 ls (.int (nI 2) :: st) h := e_iconst dX5_goesOn_133 kiconst_2 rfl
theorem wX5_goesOn_134 : E_ d mX5_goesOn 134 [s0, .val (.int x), s2, s3, s4, s5] st h = E_ d mX5_goesOn 135 [s0, .val (.int x), s2, s3, s4, s5] (.int x :: st) h := e_go dX5_goesOn_134 rfl rfl
theorem wX5_goesOn_135 : E_ d mX5_goesOn 135 ls (.int y :: .int x :: st) h = E_ d mX5_goesOn 136 ls (.int (x + y) :: st) h := e_go dX5_goesOn_135 rfl rfl
theorem wX5_goesOn_136 (ht : oT h a = 40) (hi : xix x (oN h a) = true) : E_ d mX5_goesOn 136 ls (.int x :: .ref a :: st) h = E_ d mX5_goesOn 137 ls (.int (oI h a x.toNatClampNeg) :: st) h := e_iald dX5_goesOn_136 rfl ht hi
theorem wX5_goesOn_137 : E_ d mX5_goesOn 137 ls (.int y :: .int x :: st) h = if x = y then E_ d mX5_goesOn 140 ls st h else E_ d mX5_goesOn 201 ls st h := e_ine dX5_goesOn_137 rfl rfl
theorem wX5_goesOn_140 : E_ d mX5_goesOn 140 [.val (.ref a), s1, s2, s3, s4, s5] st h = E_ d mX5_goesOn 141 [.val (.ref a), s1, s2, s3, s4, s5] (.ref a :: st) h := e_go dX5_goesOn_140 rfl rfl
theorem wX5_goesOn_141 (ht : oT h a = 7) : E_ d mX5_goesOn 141 ls (.ref a :: st) h = E_ d mX5_goesOn 144 ls (va_rf (oR h a 18) :: st) h := e_getR0 dX5_goesOn_141 rfl rfl ht
theorem wX5_goesOn_144 : E_ d mX5_goesOn 144 ls st h = E_ d mX5_goesOn 145 ls (.int (nI 0) :: st) h := e_iconst dX5_goesOn_144 kiconst_0 rfl
theorem wX5_goesOn_145 : E_ d mX5_goesOn 145 [s0, s1, s2, s3, s4, .val (.int x)] st h = E_ d mX5_goesOn 147 [s0, s1, s2, s3, s4, .val (.int x)] (.int x :: st) h := e_go dX5_goesOn_145 rfl rfl
theorem wX5_goesOn_147 : E_ d mX5_goesOn 147 ls (.int y :: .int x :: st) h = E_ d mX5_goesOn 148 ls (.int (x + y) :: st) h := e_go dX5_goesOn_147 rfl rfl
theorem wX5_goesOn_148 (ht : oT h a = 40) (hi : xix x (oN h a) = true) : E_ d mX5_goesOn 148 ls (.int x :: .ref a :: st) h = E_ d mX5_goesOn 149 ls (.int (oI h a x.toNatClampNeg) :: st) h := e_iald dX5_goesOn_148 rfl ht hi
theorem wX5_goesOn_149 : E_ d mX5_goesOn 149 ls (.int x :: st) h = if 0 < x then E_ d mX5_goesOn 152 ls st h else E_ d mX5_goesOn 201 ls st h := e_zle dX5_goesOn_149 rfl rfl
theorem wX5_goesOn_152 : E_ d mX5_goesOn 152 [.val (.ref a), s1, s2, s3, s4, s5] st h = E_ d mX5_goesOn 153 [.val (.ref a), s1, s2, s3, s4, s5] (.ref a :: st) h := e_go dX5_goesOn_152 rfl rfl
theorem wX5_goesOn_153 (ht : oT h a = 7) : E_ d mX5_goesOn 153 ls (.ref a :: st) h = E_ d mX5_goesOn 156 ls (va_rf (oR h a 18) :: st) h := e_getR0 dX5_goesOn_153 rfl rfl ht
theorem wX5_goesOn_156 : E_ d mX5_goesOn 156 ls st h = E_ d mX5_goesOn 158 ls (.int (nI 16) :: st) h := e_bipush dX5_goesOn_156 kbipush_16 rfl
theorem wX5_goesOn_158 : E_ d mX5_goesOn 158 [s0, s1, s2, s3, s4, .val (.int x)] st h = E_ d mX5_goesOn 160 [s0, s1, s2, s3, s4, .val (.int x)] (.int x :: st) h := e_go dX5_goesOn_158 rfl rfl
theorem wX5_goesOn_160 : E_ d mX5_goesOn 160 ls (.int y :: .int x :: st) h = E_ d mX5_goesOn 161 ls (.int (x + y) :: st) h := e_go dX5_goesOn_160 rfl rfl
theorem wX5_goesOn_161 (ht : oT h a = 40) (hi : xix x (oN h a) = true) : E_ d mX5_goesOn 161 ls (.int x :: .ref a :: st) h = E_ d mX5_goesOn 162 ls (.int (oI h a x.toNatClampNeg) :: st) h := e_iald dX5_goesOn_161 rfl ht hi
theorem wX5_goesOn_162 : E_ d mX5_goesOn 162 ls st h = E_ d mX5_goesOn 163 ls (.int (nI 2) :: st) h := e_iconst dX5_goesOn_162 kiconst_2 rfl
theorem wX5_goesOn_163 : E_ d mX5_goesOn 163 ls (.int y :: .int x :: st) h = if x = y then E_ d mX5_goesOn 176 ls st h else E_ d mX5_goesOn 166 ls st h := e_ieq dX5_goesOn_163 rfl rfl
theorem wX5_goesOn_166 : E_ d mX5_goesOn 166 [.val (.ref a), s1, s2, s3, s4, s5] st h = E_ d mX5_goesOn 167 [.val (.ref a), s1, s2, s3, s4, s5] (.ref a :: st) h := e_go dX5_goesOn_166 rfl rfl
theorem wX5_goesOn_167 (ht : oT h a = 7) : E_ d mX5_goesOn 167 ls (.ref a :: st) h = E_ d mX5_goesOn 170 ls (va_rf (oR h a 25) :: st) h := e_getR0 dX5_goesOn_167 rfl rfl ht
theorem wX5_goesOn_170 : E_ d mX5_goesOn 170 [s0, s1, s2, s3, s4, .val (.int x)] st h = E_ d mX5_goesOn 172 [s0, s1, s2, s3, s4, .val (.int x)] (.int x :: st) h := e_go dX5_goesOn_170 rfl rfl
theorem wX5_goesOn_172 (ht : oT h a = 41 ∨ oT h a = 42) (hi : xix x (oN h a) = true) : E_ d mX5_goesOn 172 ls (.int x :: .ref a :: st) h = E_ d mX5_goesOn 173 ls (.int (oI h a x.toNatClampNeg) :: st) h := e_bald dX5_goesOn_172 rfl ht hi
theorem wX5_goesOn_173 : E_ d mX5_goesOn 173 ls (.int x :: st) h = if x = 0 then E_ d mX5_goesOn 201 ls st h else E_ d mX5_goesOn 176 ls st h := e_zeq dX5_goesOn_173 rfl rfl
theorem wX5_goesOn_176 : E_ d mX5_goesOn 176 [.val (.ref a), s1, s2, s3, s4, s5] st h = E_ d mX5_goesOn 177 [.val (.ref a), s1, s2, s3, s4, s5] (.ref a :: st) h := e_go dX5_goesOn_176 rfl rfl
theorem wX5_goesOn_177 (ht : oT h a = 7) : E_ d mX5_goesOn 177 ls (.ref a :: st) h = E_ d mX5_goesOn 180 ls (va_rf (oR h a 18) :: st) h := e_getR0 dX5_goesOn_177 rfl rfl ht
theorem wX5_goesOn_180 : E_ d mX5_goesOn 180 ls st h = E_ d mX5_goesOn 181 ls (.int (nI 0) :: st) h := e_iconst dX5_goesOn_180 kiconst_0 rfl
theorem wX5_goesOn_181 : E_ d mX5_goesOn 181 [s0, s1, s2, s3, s4, .val (.int x)] st h = E_ d mX5_goesOn 183 [s0, s1, s2, s3, s4, .val (.int x)] (.int x :: st) h := e_go dX5_goesOn_181 rfl rfl
theorem wX5_goesOn_183 : E_ d mX5_goesOn 183 ls (.int y :: .int x :: st) h = E_ d mX5_goesOn 184 ls (.int (x + y) :: st) h := e_go dX5_goesOn_183 rfl rfl
theorem wX5_goesOn_184 (ht : oT h a = 40) (hi : xix x (oN h a) = true) : E_ d mX5_goesOn 184 ls (.int x :: .ref a :: st) h = E_ d mX5_goesOn 185 ls (.int (oI h a x.toNatClampNeg) :: st) h := e_iald dX5_goesOn_184 rfl ht hi
theorem wX5_goesOn_185 : E_ d mX5_goesOn 185 [s0, s1, s2, s3, .val (.int x), s5] st h = E_ d mX5_goesOn 187 [s0, s1, s2, s3, .val (.int x), s5] (.int x :: st) h := e_go dX5_goesOn_185 rfl rfl
theorem wX5_goesOn_187 : E_ d mX5_goesOn 187 ls (.int y :: .int x :: st) h = if y < x then E_ d mX5_goesOn 190 ls st h else E_ d mX5_goesOn 201 ls st h := e_ile dX5_goesOn_187 rfl rfl
theorem wX5_goesOn_190 : E_ d mX5_goesOn 190 [.val (.ref a), s1, s2, s3, s4, s5] st h = E_ d mX5_goesOn 191 [.val (.ref a), s1, s2, s3, s4, s5] (.ref a :: st) h := e_go dX5_goesOn_190 rfl rfl
theorem wX5_goesOn_191 (ht : oT h a = 7) : E_ d mX5_goesOn 191 ls (.ref a :: st) h = E_ d mX5_goesOn 194 ls (va_rf (oR h a 18) :: st) h := e_getR0 dX5_goesOn_191 rfl rfl ht
theorem wX5_goesOn_194 : E_ d mX5_goesOn 194 ls st h = E_ d mX5_goesOn 195 ls (.int (nI 0) :: st) h := e_iconst dX5_goesOn_194 kiconst_0 rfl
theorem wX5_goesOn_195 : E_ d mX5_goesOn 195 [s0, s1, s2, s3, s4, .val (.int x)] st h = E_ d mX5_goesOn 197 [s0, s1, s2, s3, s4, .val (.int x)] (.int x :: st) h := e_go dX5_goesOn_195 rfl rfl
theorem wX5_goesOn_197 : E_ d mX5_goesOn 197 ls (.int y :: .int x :: st) h = E_ d mX5_goesOn 198 ls (.int (x + y) :: st) h := e_go dX5_goesOn_197 rfl rfl
theorem wX5_goesOn_198 (ht : oT h a = 40) (hi : xix x (oN h a) = true) : E_ d mX5_goesOn 198 ls (.int x :: .ref a :: st) h = E_ d mX5_goesOn 199 ls (.int (oI h a x.toNatClampNeg) :: st) h := e_iald dX5_goesOn_198 rfl ht hi
theorem wX5_goesOn_199 : E_ d mX5_goesOn 199 [s0, s1, s2, s3, s4, s5] (.int x :: st) h = E_ d mX5_goesOn 201 [s0, s1, s2, xk s3, .val (.int x), s5] st h := e_go dX5_goesOn_199 rfl rfl
theorem wX5_goesOn_201 : E_ d mX5_goesOn 201 [s0, s1, s2, s3, s4, .val (.int x)] st h = E_ d mX5_goesOn 204 [s0, s1, s2, s3, xk s4, .val (.int (x + nI 1))] st h := by rw [← kiinc_1]; exact e_go dX5_goesOn_201 rfl rfl
theorem wX5_goesOn_204 : E_ d mX5_goesOn 204 ls st h = E_ d mX5_goesOn 99 ls st h := e_gt dX5_goesOn_204 rfl
theorem wX5_goesOn_207 : E_ d mX5_goesOn 207 [s0, s1, s2, s3, .val (.int x), s5] st h = E_ d mX5_goesOn 209 [s0, s1, s2, s3, .val (.int x), s5] (.int x :: st) h := e_go dX5_goesOn_207 rfl rfl
theorem wX5_goesOn_209 : E_ d mX5_goesOn 209 ls st h = E_ d mX5_goesOn 210 ls (.int ((-1)) :: st) h := e_iconst dX5_goesOn_209 kiconst_m1 rfl
theorem wX5_goesOn_210 : E_ d mX5_goesOn 210 ls (.int y :: .int x :: st) h = if x = y then E_ d mX5_goesOn 213 ls st h else E_ d mX5_goesOn 217 ls st h := e_ine dX5_goesOn_210 rfl rfl
theorem wX5_goesOn_213 : E_ d mX5_goesOn 213 [s0, s1, s2, .val (.int x), s4, s5] st h = E_ d mX5_goesOn 214 [s0, s1, s2, .val (.int x), s4, s5] (.int x :: st) h := e_go dX5_goesOn_213 rfl rfl
theorem wX5_goesOn_214 : E_ d mX5_goesOn 214 ls st h = E_ d mX5_goesOn 221 ls st h := e_gt dX5_goesOn_214 rfl
theorem wX5_goesOn_217 : E_ d mX5_goesOn 217 [s0, s1, s2, s3, .val (.int x), s5] st h = E_ d mX5_goesOn 219 [s0, s1, s2, s3, .val (.int x), s5] (.int x :: st) h := e_go dX5_goesOn_217 rfl rfl
theorem wX5_goesOn_219 : E_ d mX5_goesOn 219 ls st h = E_ d mX5_goesOn 220 ls (.int (nI 2) :: st) h := e_iconst dX5_goesOn_219 kiconst_2 rfl
theorem wX5_goesOn_220 : E_ d mX5_goesOn 220 ls (.int y :: .int x :: st) h = E_ d mX5_goesOn 221 ls (.int (x + y) :: st) h := e_go dX5_goesOn_220 rfl rfl
theorem wX5_goesOn_221 : E_ d mX5_goesOn 221 [s0, s1, s2, s3, s4, s5] (.int x :: st) h = E_ d mX5_goesOn 223 [s0, s1, s2, s3, xk s4, .val (.int x)] st h := e_go dX5_goesOn_221 rfl rfl
theorem wX5_goesOn_223 : E_ d mX5_goesOn 223 [s0, s1, s2, s3, s4, .val (.int x)] st h = E_ d mX5_goesOn 225 [s0, s1, s2, s3, s4, .val (.int x)] (.int x :: st) h := e_go dX5_goesOn_223 rfl rfl
theorem wX5_goesOn_225 : E_ d mX5_goesOn 225 [s0, s1, .val (.int x), s3, s4, s5] st h = E_ d mX5_goesOn 226 [s0, s1, .val (.int x), s3, s4, s5] (.int x :: st) h := e_go dX5_goesOn_225 rfl rfl
theorem wX5_goesOn_226 : E_ d mX5_goesOn 226 ls (.int y :: .int x :: st) h = if y < x then E_ d mX5_goesOn 229 ls st h else E_ d mX5_goesOn 233 ls st h := e_ile dX5_goesOn_226 rfl rfl
theorem wX5_goesOn_229 : E_ d mX5_goesOn 229 [s0, s1, .val (.int x), s3, s4, s5] st h = E_ d mX5_goesOn 230 [s0, s1, .val (.int x), s3, s4, s5] (.int x :: st) h := e_go dX5_goesOn_229 rfl rfl
theorem wX5_goesOn_230 : E_ d mX5_goesOn 230 ls st h = E_ d mX5_goesOn 235 ls st h := e_gt dX5_goesOn_230 rfl
theorem wX5_goesOn_233 : E_ d mX5_goesOn 233 [s0, s1, s2, s3, s4, .val (.int x)] st h = E_ d mX5_goesOn 235 [s0, s1, s2, s3, s4, .val (.int x)] (.int x :: st) h := e_go dX5_goesOn_233 rfl rfl
theorem wX5_goesOn_235 : E_ d mX5_goesOn 235 [s0, s1, s2, s3, s4, s5] (.int x :: st) h = E_ d mX5_goesOn 237 [s0, s1, s2, s3, xk s4, .val (.int x)] st h := e_go dX5_goesOn_235 rfl rfl
theorem wX5_goesOn_237 : E_ d mX5_goesOn 237 [.val (.ref a), s1, s2, s3, s4, s5] st h = E_ d mX5_goesOn 238 [.val (.ref a), s1, s2, s3, s4, s5] (.ref a :: st) h := e_go dX5_goesOn_237 rfl rfl
theorem wX5_goesOn_238 (ht : oT h a = 7) : E_ d mX5_goesOn 238 ls (.ref a :: st) h = E_ d mX5_goesOn 241 ls (va_rf (oR h a 25) :: st) h := e_getR0 dX5_goesOn_238 rfl rfl ht
theorem wX5_goesOn_241 : E_ d mX5_goesOn 241 [s0, .val (.int x), s2, s3, s4, s5] st h = E_ d mX5_goesOn 242 [s0, .val (.int x), s2, s3, s4, s5] (.int x :: st) h := e_go dX5_goesOn_241 rfl rfl
theorem wX5_goesOn_242 : E_ d mX5_goesOn 242 [s0, s1, s2, s3, s4, .val (.int x)] st h = E_ d mX5_goesOn 244 [s0, s1, s2, s3, s4, .val (.int x)] (.int x :: st) h := e_go dX5_goesOn_242 rfl rfl
theorem wX5_goesOn_244 : E_ d mX5_goesOn 244 [s0, s1, s2, .val (.int x), s4, s5] st h = E_ d mX5_goesOn 245 [s0, s1, s2, .val (.int x), s4, s5] (.int x :: st) h := e_go dX5_goesOn_244 rfl rfl
theorem wX5_goesOn_245 : E_ d mX5_goesOn 245 ls (.int y :: .int x :: st) h = if y < x then E_ d mX5_goesOn 248 ls st h else E_ d mX5_goesOn 252 ls st h := e_ile dX5_goesOn_245 rfl rfl
theorem wX5_goesOn_248 : E_ d mX5_goesOn 248 ls st h = E_ d mX5_goesOn 249 ls (.int (nI 1) :: st) h := e_iconst dX5_goesOn_248 kiconst_1 rfl
theorem wX5_goesOn_249 : E_ d mX5_goesOn 249 ls st h = E_ d mX5_goesOn 253 ls st h := e_gt dX5_goesOn_249 rfl
theorem wX5_goesOn_252 : E_ d mX5_goesOn 252 ls st h = E_ d mX5_goesOn 253 ls (.int (nI 0) :: st) h := e_iconst dX5_goesOn_252 kiconst_0 rfl
theorem wX5_goesOn_253 (ht : oT h a = 41) (hi : xix x (oN h a) = true) : E_ d mX5_goesOn 253 ls (.int y :: .int x :: .ref a :: st) h = E_ d mX5_goesOn 254 ls st (pI h a (va_up (oI h a) x.toNatClampNeg (vp_nar .byte y))) := e_bast dX5_goesOn_253 rfl ht hi
theorem wX5_goesOn_253z (ht : oT h a = 42) (hi : xix x (oN h a) = true) : E_ d mX5_goesOn 253 ls (.int y :: .int x :: .ref a :: st) h = E_ d mX5_goesOn 254 ls st (pI h a (va_up (oI h a) x.toNatClampNeg (vp_nar .boolean y))) := e_zast dX5_goesOn_253 rfl ht hi
theorem wX5_goesOn_254 : E_ d mX5_goesOn 254 [.val (.ref a), s1, s2, s3, s4, s5] st h = E_ d mX5_goesOn 255 [.val (.ref a), s1, s2, s3, s4, s5] (.ref a :: st) h := e_go dX5_goesOn_254 rfl rfl
theorem wX5_goesOn_255 (ht : oT h a = 7) : E_ d mX5_goesOn 255 ls (.ref a :: st) h = E_ d mX5_goesOn 258 ls (va_rf (oR h a 18) :: st) h := e_getR0 dX5_goesOn_255 rfl rfl ht
theorem wX5_goesOn_258 : E_ d mX5_goesOn 258 ls st h = E_ d mX5_goesOn 259 ls (.int (nI 0) :: st) h := e_iconst dX5_goesOn_258 kiconst_0 rfl
theorem wX5_goesOn_259 : E_ d mX5_goesOn 259 [s0, .val (.int x), s2, s3, s4, s5] st h = E_ d mX5_goesOn 260 [s0, .val (.int x), s2, s3, s4, s5] (.int x :: st) h := e_go dX5_goesOn_259 rfl rfl
theorem wX5_goesOn_260 : E_ d mX5_goesOn 260 ls (.int y :: .int x :: st) h = E_ d mX5_goesOn 261 ls (.int (x + y) :: st) h := e_go dX5_goesOn_260 rfl rfl
theorem wX5_goesOn_261 : E_ d mX5_goesOn 261 [s0, s1, s2, s3, s4, .val (.int x)] st h = E_ d mX5_goesOn 263 [s0, s1, s2, s3, s4, .val (.int x)] (.int x :: st) h := e_go dX5_goesOn_261 rfl rfl
theorem wX5_goesOn_263 : E_ d mX5_goesOn 263 [s0, s1, s2, .val (.int x), s4, s5] st h = E_ d mX5_goesOn 264 [s0, s1, s2, .val (.int x), s4, s5] (.int x :: st) h := e_go dX5_goesOn_263 rfl rfl
theorem wX5_goesOn_264 : E_ d mX5_goesOn 264 ls (.int y :: .int x :: st) h = if y < x then E_ d mX5_goesOn 267 ls st h else E_ d mX5_goesOn 272 ls st h := e_ile dX5_goesOn_264 rfl rfl
theorem wX5_goesOn_267 : E_ d mX5_goesOn 267 [s0, s1, s2, s3, s4, .val (.int x)] st h = E_ d mX5_goesOn 269 [s0, s1, s2, s3, s4, .val (.int x)] (.int x :: st) h := e_go dX5_goesOn_267 rfl rfl
theorem wX5_goesOn_269 : E_ d mX5_goesOn 269 ls st h = E_ d mX5_goesOn 273 ls st h := e_gt dX5_goesOn_269 rfl
theorem wX5_goesOn_272 : E_ d mX5_goesOn 272 [s0, s1, s2, .val (.int x), s4, s5] st h = E_ d mX5_goesOn 273 [s0, s1, s2, .val (.int x), s4, s5] (.int x :: st) h := e_go dX5_goesOn_272 rfl rfl
theorem wX5_goesOn_273 (ht : oT h a = 40) (hi : xix x (oN h a) = true) : E_ d mX5_goesOn 273 ls (.int y :: .int x :: .ref a :: st) h = E_ d mX5_goesOn 274 ls st (pI h a (va_up (oI h a) x.toNatClampNeg y)) := e_iast dX5_goesOn_273 rfl ht hi
theorem wX5_goesOn_274 : E_ d mX5_goesOn 274 [.val (.ref a), s1, s2, s3, s4, s5] st h = E_ d mX5_goesOn 275 [.val (.ref a), s1, s2, s3, s4, s5] (.ref a :: st) h := e_go dX5_goesOn_274 rfl rfl
theorem wX5_goesOn_275 (ht : oT h a = 7) : E_ d mX5_goesOn 275 ls (.ref a :: st) h = E_ d mX5_goesOn 278 ls (va_rf (oR h a 24) :: st) h := e_getR0 dX5_goesOn_275 rfl rfl ht
theorem wX5_goesOn_278 : E_ d mX5_goesOn 278 [s0, .val (.int x), s2, s3, s4, s5] st h = E_ d mX5_goesOn 279 [s0, .val (.int x), s2, s3, s4, s5] (.int x :: st) h := e_go dX5_goesOn_278 rfl rfl
theorem wX5_goesOn_279 : E_ d mX5_goesOn 279 ls st h = E_ d mX5_goesOn 280 ls (.int (nI 1) :: st) h := e_iconst dX5_goesOn_279 kiconst_1 rfl
theorem wX5_goesOn_280 (ht : oT h a = 41) (hi : xix x (oN h a) = true) : E_ d mX5_goesOn 280 ls (.int y :: .int x :: .ref a :: st) h = E_ d mX5_goesOn 281 ls st (pI h a (va_up (oI h a) x.toNatClampNeg (vp_nar .byte y))) := e_bast dX5_goesOn_280 rfl ht hi
theorem wX5_goesOn_280z (ht : oT h a = 42) (hi : xix x (oN h a) = true) : E_ d mX5_goesOn 280 ls (.int y :: .int x :: .ref a :: st) h = E_ d mX5_goesOn 281 ls st (pI h a (va_up (oI h a) x.toNatClampNeg (vp_nar .boolean y))) := e_zast dX5_goesOn_280 rfl ht hi
theorem wX5_goesOn_281 : E_ d mX5_goesOn 281 [.val (.ref a), s1, s2, s3, s4, s5] st h = E_ d mX5_goesOn 282 [.val (.ref a), s1, s2, s3, s4, s5] (.ref a :: st) h := e_go dX5_goesOn_281 rfl rfl
theorem wX5_goesOn_282 (ht : oT h a = 7) : E_ d mX5_goesOn 282 ls (.ref a :: st) h = E_ d mX5_goesOn 285 ls (va_rf (oR h a 18) :: st) h := e_getR0 dX5_goesOn_282 rfl rfl ht
theorem wX5_goesOn_285 : E_ d mX5_goesOn 285 ls st h = E_ d mX5_goesOn 286 ls (.int (nI 0) :: st) h := e_iconst dX5_goesOn_285 kiconst_0 rfl
theorem wX5_goesOn_286 : E_ d mX5_goesOn 286 [s0, .val (.int x), s2, s3, s4, s5] st h = E_ d mX5_goesOn 287 [s0, .val (.int x), s2, s3, s4, s5] (.int x :: st) h := e_go dX5_goesOn_286 rfl rfl
theorem wX5_goesOn_287 : E_ d mX5_goesOn 287 ls (.int y :: .int x :: st) h = E_ d mX5_goesOn 288 ls (.int (x + y) :: st) h := e_go dX5_goesOn_287 rfl rfl
theorem wX5_goesOn_288 (ht : oT h a = 40) (hi : xix x (oN h a) = true) : E_ d mX5_goesOn 288 ls (.int x :: .ref a :: st) h = E_ d mX5_goesOn 289 ls (.int (oI h a x.toNatClampNeg) :: st) h := e_iald dX5_goesOn_288 rfl ht hi
theorem wX5_goesOn_289 : E_ d mX5_goesOn 289 ls (.int x :: st) h = if 0 < x then E_ d mX5_goesOn 342 ls st h else E_ d mX5_goesOn 292 ls st h := e_zgt dX5_goesOn_289 rfl rfl
theorem wX5_goesOn_292 : E_ d mX5_goesOn 292 [.val (.ref a), s1, s2, s3, s4, s5] st h = E_ d mX5_goesOn 293 [.val (.ref a), s1, s2, s3, s4, s5] (.ref a :: st) h := e_go dX5_goesOn_292 rfl rfl
theorem wX5_goesOn_293 (ht : oT h a = 7) : E_ d mX5_goesOn 293 ls (.ref a :: st) h = E_ d mX5_goesOn 296 ls (va_rf (oR h a 18) :: st) h := e_getR0 dX5_goesOn_293 rfl rfl ht
theorem wX5_goesOn_296 : E_ d mX5_goesOn 296 ls st h = E_ d mX5_goesOn 298 ls (.int (nI 33) :: st) h := e_bipush dX5_goesOn_296 kbipush_33 rfl
theorem wX5_goesOn_298 (ht : oT h a = 40) (hi : xix x (oN h a) = true) : E_ d mX5_goesOn 298 ls (.int x :: .ref a :: st) h = E_ d mX5_goesOn 299 ls (.int (oI h a x.toNatClampNeg) :: st) h := e_iald dX5_goesOn_298 rfl ht hi
theorem wX5_goesOn_299 : E_ d mX5_goesOn 299 ls st h = E_ d mX5_goesOn 300 ls (.int (nI 1) :: st) h := e_iconst dX5_goesOn_299 kiconst_1 rfl
theorem wX5_goesOn_300 : E_ d mX5_goesOn 300 ls (.int y :: .int x :: st) h = if x = y then E_ d mX5_goesOn 303 ls st h else E_ d mX5_goesOn 342 ls st h := e_ine dX5_goesOn_300 rfl rfl
theorem wX5_goesOn_303 : E_ d mX5_goesOn 303 [.val (.ref a), s1, s2, s3, s4, s5] st h = E_ d mX5_goesOn 304 [.val (.ref a), s1, s2, s3, s4, s5] (.ref a :: st) h := e_go dX5_goesOn_303 rfl rfl
theorem wX5_goesOn_304 (ht : oT h a = 7) : E_ d mX5_goesOn 304 ls (.ref a :: st) h = E_ d mX5_goesOn 307 ls (va_rf (oR h a 2) :: st) h := e_getR0 dX5_goesOn_304 rfl rfl ht
theorem wX5_goesOn_307 : E_ d mX5_goesOn 307 ls st h = E_ d mX5_goesOn 308 ls (.int (nI 2) :: st) h := e_iconst dX5_goesOn_307 kiconst_2 rfl
theorem wX5_goesOn_308 : E_ d mX5_goesOn 308 [s0, .val (.int x), s2, s3, s4, s5] st h = E_ d mX5_goesOn 309 [s0, .val (.int x), s2, s3, s4, s5] (.int x :: st) h := e_go dX5_goesOn_308 rfl rfl
theorem wX5_goesOn_309 : E_ d mX5_goesOn 309 ls (.int y :: .int x :: st) h = E_ d mX5_goesOn 310 ls (.int (x + y) :: st) h := e_go dX5_goesOn_309 rfl rfl
theorem wX5_goesOn_310 (ht : oT h a = 40) (hi : xix x (oN h a) = true) : E_ d mX5_goesOn 310 ls (.int x :: .ref a :: st) h = E_ d mX5_goesOn 311 ls (.int (oI h a x.toNatClampNeg) :: st) h := e_iald dX5_goesOn_310 rfl ht hi
theorem wX5_goesOn_311 : E_ d mX5_goesOn 311 [.val (.ref a), s1, s2, s3, s4, s5] st h = E_ d mX5_goesOn 312 [.val (.ref a), s1, s2, s3, s4, s5] (.ref a :: st) h := e_go dX5_goesOn_311 rfl rfl
theorem wX5_goesOn_312 (ht : oT h a = 7) : E_ d mX5_goesOn 312 ls (.ref a :: st) h = E_ d mX5_goesOn 315 ls (va_rf (oR h a 18) :: st) h := e_getR0 dX5_goesOn_312 rfl rfl ht
theorem wX5_goesOn_315 : E_ d mX5_goesOn 315 ls st h = E_ d mX5_goesOn 317 ls (.int (nI 32) :: st) h := e_bipush dX5_goesOn_315 kbipush_32 rfl
theorem wX5_goesOn_317 (ht : oT h a = 40) (hi : xix x (oN h a) = true) : E_ d mX5_goesOn 317 ls (.int x :: .ref a :: st) h = E_ d mX5_goesOn 318 ls (.int (oI h a x.toNatClampNeg) :: st) h := e_iald dX5_goesOn_317 rfl ht hi
theorem wX5_goesOn_318 : E_ d mX5_goesOn 318 ls (.int y :: .int x :: st) h = if x = y then E_ d mX5_goesOn 321 ls st h else E_ d mX5_goesOn 342 ls st h := e_ine dX5_goesOn_318 rfl rfl
theorem wX5_goesOn_321 : E_ d mX5_goesOn 321 [.val (.ref a), s1, s2, s3, s4, s5] st h = E_ d mX5_goesOn 322 [.val (.ref a), s1, s2, s3, s4, s5] (.ref a :: st) h := e_go dX5_goesOn_321 rfl rfl
theorem wX5_goesOn_322 (ht : oT h a = 7) : E_ d mX5_goesOn 322 ls (.ref a :: st) h = E_ d mX5_goesOn 325 ls (.int (oI h a 26) :: st) h := e_getI dX5_goesOn_322 rfl rfl ht
theorem wX5_goesOn_325 : E_ d mX5_goesOn 325 ls st h = E_ d mX5_goesOn 326 ls (.int ((-1)) :: st) h := e_iconst dX5_goesOn_325 kiconst_m1 rfl
theorem wX5_goesOn_326 : E_ d mX5_goesOn 326 ls (.int y :: .int x :: st) h = if x = y then E_ d mX5_goesOn 337 ls st h else E_ d mX5_goesOn 329 ls st h := e_ieq dX5_goesOn_326 rfl rfl
theorem wX5_goesOn_329 : E_ d mX5_goesOn 329 [s0, .val (.int x), s2, s3, s4, s5] st h = E_ d mX5_goesOn 330 [s0, .val (.int x), s2, s3, s4, s5] (.int x :: st) h := e_go dX5_goesOn_329 rfl rfl
theorem wX5_goesOn_330 : E_ d mX5_goesOn 330 [.val (.ref a), s1, s2, s3, s4, s5] st h = E_ d mX5_goesOn 331 [.val (.ref a), s1, s2, s3, s4, s5] (.ref a :: st) h := e_go dX5_goesOn_330 rfl rfl
theorem wX5_goesOn_331 (ht : oT h a = 7) : E_ d mX5_goesOn 331 ls (.ref a :: st) h = E_ d mX5_goesOn 334 ls (.int (oI h a 26) :: st) h := e_getI dX5_goesOn_331 rfl rfl ht
theorem wX5_goesOn_334 : E_ d mX5_goesOn 334 ls (.int y :: .int x :: st) h = if x < y then E_ d mX5_goesOn 337 ls st h else E_ d mX5_goesOn 342 ls st h := e_ige dX5_goesOn_334 rfl rfl
theorem wX5_goesOn_337 : E_ d mX5_goesOn 337 [.val (.ref a), s1, s2, s3, s4, s5] st h = E_ d mX5_goesOn 338 [.val (.ref a), s1, s2, s3, s4, s5] (.ref a :: st) h := e_go dX5_goesOn_337 rfl rfl
theorem wX5_goesOn_338 : E_ d mX5_goesOn 338 [s0, .val (.int x), s2, s3, s4, s5] st h = E_ d mX5_goesOn 339 [s0, .val (.int x), s2, s3, s4, s5] (.int x :: st) h := e_go dX5_goesOn_338 rfl rfl
theorem wX5_goesOn_339 (ht : oT h a = 7) : E_ d mX5_goesOn 339 ls (.int x :: .ref a :: st) h = E_ d mX5_goesOn 342 ls st (pI h a (va_up (oI h a) 26 x)) := e_putI dX5_goesOn_339 rfl rfl ht
theorem wX5_goesOn_342 : E_ d mX5_goesOn 342 ls [] h = some (none, h) := e_rt dX5_goesOn_342 rfl rfl
/-! FootOutModel.stopped -/
theorem wX5_stopped_0 : E_ d mX5_stopped 0 ls st h = E_ d mX5_stopped 1 ls (.int (nI 0) :: st) h := e_iconst dX5_stopped_0 kiconst_0 rfl
theorem wX5_stopped_1 : E_ d mX5_stopped 1 [s0, s1, s2] (.int x :: st) h = E_ d mX5_stopped 2 [xk s0, .val (.int x), s2] st h := e_go dX5_stopped_1 rfl rfl
theorem wX5_stopped_2 : E_ d mX5_stopped 2 ls st h = E_ d mX5_stopped 3 ls (.int (nI 0) :: st) h := e_iconst dX5_stopped_2 kiconst_0 rfl
theorem wX5_stopped_3 : E_ d mX5_stopped 3 [s0, s1, s2] (.int x :: st) h = E_ d mX5_stopped 4 [s0, xk s1, .val (.int x)] st h := e_go dX5_stopped_3 rfl rfl
theorem wX5_stopped_4 : E_ d mX5_stopped 4 [s0, s1, .val (.int x)] st h = E_ d mX5_stopped 5 [s0, s1, .val (.int x)] (.int x :: st) h := e_go dX5_stopped_4 rfl rfl
theorem wX5_stopped_5 : E_ d mX5_stopped 5 [.val (.ref a), s1, s2] st h = E_ d mX5_stopped 6 [.val (.ref a), s1, s2] (.ref a :: st) h := e_go dX5_stopped_5 rfl rfl
theorem wX5_stopped_6 (ht : oT h a = 7) : E_ d mX5_stopped 6 ls (.ref a :: st) h = E_ d mX5_stopped 9 ls (va_rf (oR h a 2) :: st) h := e_getR0 dX5_stopped_6 rfl rfl ht
theorem wX5_stopped_9 : E_ d mX5_stopped 9 ls st h = E_ d mX5_stopped 10 ls (.int (nI 1) :: st) h := e_iconst dX5_stopped_9 kiconst_1 rfl
theorem wX5_stopped_10 (ht : oT h a = 40) (hi : xix x (oN h a) = true) : E_ d mX5_stopped 10 ls (.int x :: .ref a :: st) h = E_ d mX5_stopped 11 ls (.int (oI h a x.toNatClampNeg) :: st) h := e_iald dX5_stopped_10 rfl ht hi
theorem wX5_stopped_11 : E_ d mX5_stopped 11 ls (.int y :: .int x :: st) h = if x < y then E_ d mX5_stopped 14 ls st h else E_ d mX5_stopped 43 ls st h := e_ige dX5_stopped_11 rfl rfl
theorem wX5_stopped_14 : E_ d mX5_stopped 14 [s0, .val (.int x), s2] st h = E_ d mX5_stopped 15 [s0, .val (.int x), s2] (.int x :: st) h := e_go dX5_stopped_14 rfl rfl
theorem wX5_stopped_15 : E_ d mX5_stopped 15 [.val (.ref a), s1, s2] st h = E_ d mX5_stopped 16 [.val (.ref a), s1, s2] (.ref a :: st) h := e_go dX5_stopped_15 rfl rfl
theorem wX5_stopped_16 (ht : oT h a = 7) : E_ d mX5_stopped 16 ls (.ref a :: st) h = E_ d mX5_stopped 19 ls (va_rf (oR h a 18) :: st) h := e_getR0 dX5_stopped_16 rfl rfl ht
theorem wX5_stopped_19 : E_ d mX5_stopped 19 ls st h = E_ d mX5_stopped 21 ls (.int (nI 16) :: st) h := e_bipush dX5_stopped_19 kbipush_16 rfl
theorem wX5_stopped_21 : E_ d mX5_stopped 21 [s0, s1, .val (.int x)] st h = E_ d mX5_stopped 22 [s0, s1, .val (.int x)] (.int x :: st) h := e_go dX5_stopped_21 rfl rfl
theorem wX5_stopped_22 : E_ d mX5_stopped 22 ls (.int y :: .int x :: st) h = E_ d mX5_stopped 23 ls (.int (x + y) :: st) h := e_go dX5_stopped_22 rfl rfl
theorem wX5_stopped_23 (ht : oT h a = 40) (hi : xix x (oN h a) = true) : E_ d mX5_stopped 23 ls (.int x :: .ref a :: st) h = E_ d mX5_stopped 24 ls (.int (oI h a x.toNatClampNeg) :: st) h := e_iald dX5_stopped_23 rfl ht hi
theorem wX5_stopped_24 : E_ d mX5_stopped 24 ls st h = E_ d mX5_stopped 25 ls (.int (nI 2) :: st) h := e_iconst dX5_stopped_24 kiconst_2 rfl
theorem wX5_stopped_25 : E_ d mX5_stopped 25 ls (.int y :: .int x :: st) h = if x = y then E_ d mX5_stopped 28 ls st h else E_ d mX5_stopped 34 ls st h := e_ine dX5_stopped_25 rfl rfl
theorem wX5_stopped_28 : E_ d mX5_stopped 28 ls st h = E_ d mX5_stopped 29 ls (.int (nI 1) :: st) h := e_iconst dX5_stopped_28 kiconst_1 rfl
theorem wX5_stopped_29 : E_ d mX5_stopped 29 [s0, s1, .val (.int x)] st h = E_ d mX5_stopped 30 [s0, s1, .val (.int x)] (.int x :: st) h := e_go dX5_stopped_29 rfl rfl
theorem wX5_stopped_30 : E_ d mX5_stopped 30 ls (.int y :: .int x :: st) h = E_ d mX5_stopped 31 ls (.int (x <<< (y &&& 31)) :: st) h := e_go dX5_stopped_30 rfl rfl
theorem wX5_stopped_31 : E_ d mX5_stopped 31 ls st h = E_ d mX5_stopped 35 ls st h := e_gt dX5_stopped_31 rfl
theorem wX5_stopped_34 : E_ d mX5_stopped 34 ls st h = E_ d mX5_stopped 35 ls (.int (nI 0) :: st) h := e_iconst dX5_stopped_34 kiconst_0 rfl
theorem wX5_stopped_35 : E_ d mX5_stopped 35 ls (.int y :: .int x :: st) h = E_ d mX5_stopped 36 ls (.int (x ||| y) :: st) h := e_go dX5_stopped_35 rfl rfl
theorem wX5_stopped_36 : E_ d mX5_stopped 36 [s0, s1, s2] (.int x :: st) h = E_ d mX5_stopped 37 [xk s0, .val (.int x), s2] st h := e_go dX5_stopped_36 rfl rfl
theorem wX5_stopped_37 : E_ d mX5_stopped 37 [s0, s1, .val (.int x)] st h = E_ d mX5_stopped 40 [s0, xk s1, .val (.int (x + nI 1))] st h := by rw [← kiinc_1]; exact e_go dX5_stopped_37 rfl rfl
theorem wX5_stopped_40 : E_ d mX5_stopped 40 ls st h = E_ d mX5_stopped 4 ls st h := e_gt dX5_stopped_40 rfl
theorem wX5_stopped_43 : E_ d mX5_stopped 43 [s0, .val (.int x), s2] st h = E_ d mX5_stopped 44 [s0, .val (.int x), s2] (.int x :: st) h := e_go dX5_stopped_43 rfl rfl
theorem wX5_stopped_44 : E_ d mX5_stopped 44 ls [.int x] h = some (some (.int x), h) := e_rt dX5_stopped_44 rfl rfl
/-! FootOutModel.watch -/
theorem wX5_watch_0 : E_ d mX5_watch 0 [.val (.ref a), s1, s2, s3, s4] st h = E_ d mX5_watch 1 [.val (.ref a), s1, s2, s3, s4] (.ref a :: st) h := e_go dX5_watch_0 rfl rfl
theorem wX5_watch_1 : E_ d mX5_watch 1 ls st h = E_ d mX5_watch 2 ls (.int (nI 0) :: st) h := e_iconst dX5_watch_1 kiconst_0 rfl
theorem wX5_watch_2 (ht : oT h a = 7) : E_ d mX5_watch 2 ls (.int x :: .ref a :: st) h = E_ d mX5_watch 5 ls st (pI h a (va_up (oI h a) 0 x)) := e_putI dX5_watch_2 rfl rfl ht
theorem wX5_watch_5 : E_ d mX5_watch 5 [.val (.ref a), s1, s2, s3, s4] st h = E_ d mX5_watch 6 [.val (.ref a), s1, s2, s3, s4] (.ref a :: st) h := e_go dX5_watch_5 rfl rfl
theorem wX5_watch_6 : E_ d mX5_watch 6 [s0, s1, s2, .val (.int x), s4] st h = E_ d mX5_watch 7 [s0, s1, s2, .val (.int x), s4] (.int x :: st) h := e_go dX5_watch_6 rfl rfl
theorem wX5_watch_7 (ht : oT h a = 7) : E_ (d + 1) mX5_watch 7 ls [.int x1, .ref a] h = (C_ d mX5_isCar [.ref a, .int x1] h).bind fun r => E_ (d + 1) mX5_watch 10 ls (xpu r.1 []) r.2 := e_vir dX5_watch_7 rfl rfl rfl rfl rfl rfl (Nat.le_of_ble_eq_true rfl) (Nat.le_of_ble_eq_true rfl) ht
theorem wX5_watch_10 : E_ d mX5_watch 10 ls (.int x :: st) h = if x = 0 then E_ d mX5_watch 38 ls st h else E_ d mX5_watch 13 ls st h := e_zeq dX5_watch_10 rfl rfl
theorem wX5_watch_13 : E_ d mX5_watch 13 [s0, s1, .val (.int x), s3, s4] st h = E_ d mX5_watch 14 [s0, s1, .val (.int x), s3, s4] (.int x :: st) h := e_go dX5_watch_13 rfl rfl
theorem wX5_watch_14 : E_ d mX5_watch 14 ls (.int x :: st) h = E_ d mX5_watch 15 ls (.long x.toInt64 :: st) h := e_go dX5_watch_14 rfl rfl
theorem wX5_watch_15 : E_ d mX5_watch 15 ls st h = E_ d mX5_watch 16 ls (.long 0 :: st) h := e_go dX5_watch_15 rfl rfl
theorem wX5_watch_16 : E_ d mX5_watch 16 ls st h = E_ d mX5_watch 19 ls (.long (99) :: st) h := e_go dX5_watch_16 rfl rfl
theorem wX5_watch_19 : E_ (d + 1) mX5_watch 19 ls [.long u3, .long u2, .long u1] h = (C_ d mX5_within [.long u1, .long u2, .long u3] h).bind fun r => E_ (d + 1) mX5_watch 22 ls (xpu r.1 []) r.2 := e_call dX5_watch_19 rfl rfl
theorem wX5_watch_22 : E_ d mX5_watch 22 ls (.int x :: st) h = if x = 0 then E_ d mX5_watch 38 ls st h else E_ d mX5_watch 25 ls st h := e_zeq dX5_watch_22 rfl rfl
theorem wX5_watch_25 : E_ d mX5_watch 25 [s0, s1, s2, s3, .val (.int x)] st h = E_ d mX5_watch 27 [s0, s1, s2, s3, .val (.int x)] (.int x :: st) h := e_go dX5_watch_25 rfl rfl
theorem wX5_watch_27 : E_ d mX5_watch 27 ls (.int x :: st) h = E_ d mX5_watch 28 ls (.long x.toInt64 :: st) h := e_go dX5_watch_27 rfl rfl
theorem wX5_watch_28 : E_ d mX5_watch 28 ls st h = E_ d mX5_watch 29 ls (.long 0 :: st) h := e_go dX5_watch_28 rfl rfl
theorem wX5_watch_29 : E_ d mX5_watch 29 ls st h = E_ d mX5_watch 32 ls (.long (3) :: st) h := e_go dX5_watch_29 rfl rfl
theorem wX5_watch_32 : E_ (d + 1) mX5_watch 32 ls [.long u3, .long u2, .long u1] h = (C_ d mX5_within [.long u1, .long u2, .long u3] h).bind fun r => E_ (d + 1) mX5_watch 35 ls (xpu r.1 []) r.2 := e_call dX5_watch_32 rfl rfl
theorem wX5_watch_35 : E_ d mX5_watch 35 ls (.int x :: st) h = if x = 0 then E_ d mX5_watch 38 ls st h else E_ d mX5_watch 46 ls st h := e_zne dX5_watch_35 rfl rfl
theorem wX5_watch_38 : E_ d mX5_watch 38 [.val (.ref a), s1, s2, s3, s4] st h = E_ d mX5_watch 39 [.val (.ref a), s1, s2, s3, s4] (.ref a :: st) h := e_go dX5_watch_38 rfl rfl
theorem wX5_watch_39 : E_ d mX5_watch 39 ls st h = E_ d mX5_watch 42 ls (.int ((-1000)) :: st) h := e_sipush dX5_watch_39 ksipush_m1000 rfl
theorem wX5_watch_42 (ht : oT h a = 7) : E_ (d + 1) mX5_watch 42 ls [.int x1, .ref a] h = (C_ d mX5_none [.ref a, .int x1] h).bind fun r => E_ (d + 1) mX5_watch 45 ls (xpu r.1 []) r.2 := e_vir dX5_watch_42 rfl rfl rfl rfl rfl rfl (Nat.le_of_ble_eq_true rfl) (Nat.le_of_ble_eq_true rfl) ht
theorem wX5_watch_45 : E_ d mX5_watch 45 ls [.int x] h = some (some (.int x), h) := e_rt dX5_watch_45 rfl rfl
theorem wX5_watch_46 : E_ d mX5_watch 46 [.val (.ref a), s1, s2, s3, s4] st h = E_ d mX5_watch 47 [.val (.ref a), s1, s2, s3, s4] (.ref a :: st) h := e_go dX5_watch_46 rfl rfl
theorem wX5_watch_47 : E_ d mX5_watch 47 [s0, .val (.int x), s2, s3, s4] st h = E_ d mX5_watch 48 [s0, .val (.int x), s2, s3, s4] (.int x :: st) h := e_go dX5_watch_47 rfl rfl
theorem wX5_watch_48 : E_ d mX5_watch 48 [s0, s1, .val (.int x), s3, s4] st h = E_ d mX5_watch 49 [s0, s1, .val (.int x), s3, s4] (.int x :: st) h := e_go dX5_watch_48 rfl rfl
theorem wX5_watch_49 (ht : oT h a = 7) : E_ (d + 1) mX5_watch 49 ls [.int x2, .int x1, .ref a] h = (C_ d mX5_runs [.ref a, .int x1, .int x2] h).bind fun r => E_ (d + 1) mX5_watch 52 ls (xpu r.1 []) r.2 := e_vir dX5_watch_49 rfl rfl rfl rfl rfl rfl (Nat.le_of_ble_eq_true rfl) (Nat.le_of_ble_eq_true rfl) ht
theorem wX5_watch_52 : E_ d mX5_watch 52 [.val (.ref a), s1, s2, s3, s4] st h = E_ d mX5_watch 53 [.val (.ref a), s1, s2, s3, s4] (.ref a :: st) h := e_go dX5_watch_52 rfl rfl
theorem wX5_watch_53 (ht : oT h a = 7) : E_ d mX5_watch 53 ls (.ref a :: st) h = E_ d mX5_watch 56 ls (va_rf (oR h a 18) :: st) h := e_getR0 dX5_watch_53 rfl rfl ht
theorem wX5_watch_56 : E_ d mX5_watch 56 ls st h = E_ d mX5_watch 57 ls (.int (nI 0) :: st) h := e_iconst dX5_watch_56 kiconst_0 rfl
theorem wX5_watch_57 : E_ d mX5_watch 57 ls st h = E_ d mX5_watch 59 ls (.int (nI 8) :: st) h := e_bipush dX5_watch_57 kbipush_8 rfl
theorem wX5_watch_59 : E_ d mX5_watch 59 [s0, s1, s2, s3, .val (.int x)] st h = E_ d mX5_watch 61 [s0, s1, s2, s3, .val (.int x)] (.int x :: st) h := e_go dX5_watch_59 rfl rfl
theorem wX5_watch_61 : E_ d mX5_watch 61 ls (.int y :: .int x :: st) h = E_ d mX5_watch 62 ls (.int (x * y) :: st) h := e_go dX5_watch_61 rfl rfl
theorem wX5_watch_62 : E_ d mX5_watch 62 ls (.int y :: .int x :: st) h = E_ d mX5_watch 63 ls (.int (x + y) :: st) h := e_go dX5_watch_62 rfl rfl
theorem wX5_watch_63 : E_ d mX5_watch 63 [s0, s1, s2, .val (.int x), s4] st h = E_ d mX5_watch 64 [s0, s1, s2, .val (.int x), s4] (.int x :: st) h := e_go dX5_watch_63 rfl rfl
theorem wX5_watch_64 : E_ d mX5_watch 64 ls (.int y :: .int x :: st) h = E_ d mX5_watch 65 ls (.int (x + y) :: st) h := e_go dX5_watch_64 rfl rfl
theorem wX5_watch_65 (ht : oT h a = 40) (hi : xix x (oN h a) = true) : E_ d mX5_watch 65 ls (.int x :: .ref a :: st) h = E_ d mX5_watch 66 ls (.int (oI h a x.toNatClampNeg) :: st) h := e_iald dX5_watch_65 rfl ht hi
theorem wX5_watch_66 : E_ d mX5_watch 66 ls [.int x] h = some (some (.int x), h) := e_rt dX5_watch_66 rfl rfl
/-! FootOutModel.none -/
theorem wX5_none_0 : E_ d mX5_none 0 [.val (.ref a), s1] st h = E_ d mX5_none 1 [.val (.ref a), s1] (.ref a :: st) h := e_go dX5_none_0 rfl rfl
theorem wX5_none_1 (ht : oT h a = 7) : E_ d mX5_none 1 ls (.ref a :: st) h = E_ d mX5_none 4 ls (va_rf (oR h a 1) :: st) h := e_getR0 dX5_none_1 rfl rfl ht
theorem wX5_none_4 : E_ d mX5_none 4 ls st h = E_ d mX5_none 5 ls (.int (nI 0) :: st) h := e_iconst dX5_none_4 kiconst_0 rfl
theorem wX5_none_5 : E_ d mX5_none 5 ls (.int x :: .ref b :: st) h = E_ d mX5_none 6 ls (.int x :: .ref b :: .int x :: .ref b :: st) h := e_go dX5_none_5 rfl rfl
theorem wX5_none_6 (ht : oT h a = 40) (hi : xix x (oN h a) = true) : E_ d mX5_none 6 ls (.int x :: .ref a :: st) h = E_ d mX5_none 7 ls (.int (oI h a x.toNatClampNeg) :: st) h := e_iald dX5_none_6 rfl ht hi
theorem wX5_none_7 : E_ d mX5_none 7 ls st h = E_ d mX5_none 8 ls (.int (nI 1) :: st) h := e_iconst dX5_none_7 kiconst_1 rfl
theorem wX5_none_8 : E_ d mX5_none 8 ls (.int y :: .int x :: st) h = E_ d mX5_none 9 ls (.int (x + y) :: st) h := e_go dX5_none_8 rfl rfl
theorem wX5_none_9 (ht : oT h a = 40) (hi : xix x (oN h a) = true) : E_ d mX5_none 9 ls (.int y :: .int x :: .ref a :: st) h = E_ d mX5_none 10 ls st (pI h a (va_up (oI h a) x.toNatClampNeg y)) := e_iast dX5_none_9 rfl ht hi
theorem wX5_none_10 : E_ d mX5_none 10 [s0, .val (.int x)] st h = E_ d mX5_none 11 [s0, .val (.int x)] (.int x :: st) h := e_go dX5_none_10 rfl rfl
theorem wX5_none_11 : E_ d mX5_none 11 ls [.int x] h = some (some (.int x), h) := e_rt dX5_none_11 rfl rfl
/-! FootOutModel.stands -/
theorem wX5_stands_0 : E_ d mX5_stands 0 [.val (.ref a), s1, s2] st h = E_ d mX5_stands 1 [.val (.ref a), s1, s2] (.ref a :: st) h := e_go dX5_stands_0 rfl rfl
theorem wX5_stands_1 : E_ d mX5_stands 1 ls st h = E_ d mX5_stands 2 ls (.int (nI 0) :: st) h := e_iconst dX5_stands_1 kiconst_0 rfl
theorem wX5_stands_2 (ht : oT h a = 7) : E_ d mX5_stands 2 ls (.int x :: .ref a :: st) h = E_ d mX5_stands 5 ls st (pI h a (va_up (oI h a) 0 x)) := e_putI dX5_stands_2 rfl rfl ht
theorem wX5_stands_5 : E_ d mX5_stands 5 [s0, s1, .val (.int x)] st h = E_ d mX5_stands 6 [s0, s1, .val (.int x)] (.int x :: st) h := e_go dX5_stands_5 rfl rfl
theorem wX5_stands_6 : E_ d mX5_stands 6 ls (.int x :: st) h = E_ d mX5_stands 7 ls (.long x.toInt64 :: st) h := e_go dX5_stands_6 rfl rfl
theorem wX5_stands_7 : E_ d mX5_stands 7 ls st h = E_ d mX5_stands 8 ls (.long 0 :: st) h := e_go dX5_stands_7 rfl rfl
theorem wX5_stands_8 : E_ d mX5_stands 8 ls st h = E_ d mX5_stands 11 ls (.long (99) :: st) h := e_go dX5_stands_8 rfl rfl
theorem wX5_stands_11 : E_ (d + 1) mX5_stands 11 ls [.long u3, .long u2, .long u1] h = (C_ d mX5_within [.long u1, .long u2, .long u3] h).bind fun r => E_ (d + 1) mX5_stands 14 ls (xpu r.1 []) r.2 := e_call dX5_stands_11 rfl rfl
theorem wX5_stands_14 : E_ d mX5_stands 14 ls (.int x :: st) h = if x = 0 then E_ d mX5_stands 17 ls st h else E_ d mX5_stands 24 ls st h := e_zne dX5_stands_14 rfl rfl
theorem wX5_stands_17 : E_ d mX5_stands 17 [.val (.ref a), s1, s2] st h = E_ d mX5_stands 18 [.val (.ref a), s1, s2] (.ref a :: st) h := e_go dX5_stands_17 rfl rfl
theorem wX5_stands_18 : E_ d mX5_stands 18 ls st h = E_ d mX5_stands 20 ls (.int ((-3)) :: st) h := e_bipush dX5_stands_18 kbipush_m3 rfl
theorem wX5_stands_20 (ht : oT h a = 7) : E_ (d + 1) mX5_stands 20 ls [.int x1, .ref a] h = (C_ d mX5_no [.ref a, .int x1] h).bind fun r => E_ (d + 1) mX5_stands 23 ls (xpu r.1 []) r.2 := e_vir dX5_stands_20 rfl rfl rfl rfl rfl rfl (Nat.le_of_ble_eq_true rfl) (Nat.le_of_ble_eq_true rfl) ht
theorem wX5_stands_23 : E_ d mX5_stands 23 ls [.int x] h = some (some (.int x), h) := e_rt dX5_stands_23 rfl rfl
theorem wX5_stands_24 : E_ d mX5_stands 24 [.val (.ref a), s1, s2] st h = E_ d mX5_stands 25 [.val (.ref a), s1, s2] (.ref a :: st) h := e_go dX5_stands_24 rfl rfl
theorem wX5_stands_25 : E_ d mX5_stands 25 [s0, .val (.int x), s2] st h = E_ d mX5_stands 26 [s0, .val (.int x), s2] (.int x :: st) h := e_go dX5_stands_25 rfl rfl
theorem wX5_stands_26 : E_ d mX5_stands 26 [s0, s1, .val (.int x)] st h = E_ d mX5_stands 27 [s0, s1, .val (.int x)] (.int x :: st) h := e_go dX5_stands_26 rfl rfl
theorem wX5_stands_27 (ht : oT h a = 7) : E_ (d + 1) mX5_stands 27 ls [.int x2, .int x1, .ref a] h = (C_ d mX5_runs [.ref a, .int x1, .int x2] h).bind fun r => E_ (d + 1) mX5_stands 30 ls (xpu r.1 []) r.2 := e_vir dX5_stands_27 rfl rfl rfl rfl rfl rfl (Nat.le_of_ble_eq_true rfl) (Nat.le_of_ble_eq_true rfl) ht
theorem wX5_stands_30 : E_ d mX5_stands 30 ls st h = E_ d mX5_stands 32 ls (.int (nI 10) :: st) h := e_bipush dX5_stands_30 kbipush_10 rfl
theorem wX5_stands_32 : E_ d mX5_stands 32 [.val (.ref a), s1, s2] st h = E_ d mX5_stands 33 [.val (.ref a), s1, s2] (.ref a :: st) h := e_go dX5_stands_32 rfl rfl
theorem wX5_stands_33 (ht : oT h a = 7) : E_ d mX5_stands 33 ls (.ref a :: st) h = E_ d mX5_stands 36 ls (va_rf (oR h a 18) :: st) h := e_getR0 dX5_stands_33 rfl rfl ht
theorem wX5_stands_36 : E_ d mX5_stands 36 ls st h = E_ d mX5_stands 38 ls (.int (nI 32) :: st) h := e_bipush dX5_stands_36 kbipush_32 rfl
theorem wX5_stands_38 (ht : oT h a = 40) (hi : xix x (oN h a) = true) : E_ d mX5_stands 38 ls (.int x :: .ref a :: st) h = E_ d mX5_stands 39 ls (.int (oI h a x.toNatClampNeg) :: st) h := e_iald dX5_stands_38 rfl ht hi
theorem wX5_stands_39 : E_ d mX5_stands 39 ls (.int y :: .int x :: st) h = E_ d mX5_stands 40 ls (.int (x * y) :: st) h := e_go dX5_stands_39 rfl rfl
theorem wX5_stands_40 : E_ d mX5_stands 40 [.val (.ref a), s1, s2] st h = E_ d mX5_stands 41 [.val (.ref a), s1, s2] (.ref a :: st) h := e_go dX5_stands_40 rfl rfl
theorem wX5_stands_41 (ht : oT h a = 7) : E_ d mX5_stands 41 ls (.ref a :: st) h = E_ d mX5_stands 44 ls (va_rf (oR h a 18) :: st) h := e_getR0 dX5_stands_41 rfl rfl ht
theorem wX5_stands_44 : E_ d mX5_stands 44 ls st h = E_ d mX5_stands 46 ls (.int (nI 33) :: st) h := e_bipush dX5_stands_44 kbipush_33 rfl
theorem wX5_stands_46 (ht : oT h a = 40) (hi : xix x (oN h a) = true) : E_ d mX5_stands 46 ls (.int x :: .ref a :: st) h = E_ d mX5_stands 47 ls (.int (oI h a x.toNatClampNeg) :: st) h := e_iald dX5_stands_46 rfl ht hi
theorem wX5_stands_47 : E_ d mX5_stands 47 ls (.int y :: .int x :: st) h = E_ d mX5_stands 48 ls (.int (x + y) :: st) h := e_go dX5_stands_47 rfl rfl
theorem wX5_stands_48 : E_ d mX5_stands 48 ls [.int x] h = some (some (.int x), h) := e_rt dX5_stands_48 rfl rfl
/-! FootOutModel.tries -/
theorem wX5_tries_0 : E_ d mX5_tries 0 [.val (.ref a), s1, s2, s3, s4, s5] st h = E_ d mX5_tries 1 [.val (.ref a), s1, s2, s3, s4, s5] (.ref a :: st) h := e_go dX5_tries_0 rfl rfl
theorem wX5_tries_1 : E_ d mX5_tries 1 ls st h = E_ d mX5_tries 2 ls (.int (nI 0) :: st) h := e_iconst dX5_tries_1 kiconst_0 rfl
theorem wX5_tries_2 (ht : oT h a = 7) : E_ d mX5_tries 2 ls (.int x :: .ref a :: st) h = E_ d mX5_tries 5 ls st (pI h a (va_up (oI h a) 0 x)) := e_putI dX5_tries_2 rfl rfl ht
theorem wX5_tries_5 : E_ d mX5_tries 5 [s0, s1, s2, .val (.int x), s4, s5] st h = E_ d mX5_tries 6 [s0, s1, s2, .val (.int x), s4, s5] (.int x :: st) h := e_go dX5_tries_5 rfl rfl
theorem wX5_tries_6 : E_ d mX5_tries 6 ls (.int x :: st) h = E_ d mX5_tries 7 ls (.long x.toInt64 :: st) h := e_go dX5_tries_6 rfl rfl
theorem wX5_tries_7 : E_ d mX5_tries 7 ls st h = E_ d mX5_tries 8 ls (.long 1 :: st) h := e_go dX5_tries_7 rfl rfl
theorem wX5_tries_8 : E_ d mX5_tries 8 ls st h = E_ d mX5_tries 11 ls (.long (5) :: st) h := e_go dX5_tries_8 rfl rfl
theorem wX5_tries_11 : E_ (d + 1) mX5_tries 11 ls [.long u3, .long u2, .long u1] h = (C_ d mX5_within [.long u1, .long u2, .long u3] h).bind fun r => E_ (d + 1) mX5_tries 14 ls (xpu r.1 []) r.2 := e_call dX5_tries_11 rfl rfl
theorem wX5_tries_14 : E_ d mX5_tries 14 ls (.int x :: st) h = if x = 0 then E_ d mX5_tries 17 ls st h else E_ d mX5_tries 24 ls st h := e_zne dX5_tries_14 rfl rfl
theorem wX5_tries_17 : E_ d mX5_tries 17 [.val (.ref a), s1, s2, s3, s4, s5] st h = E_ d mX5_tries 18 [.val (.ref a), s1, s2, s3, s4, s5] (.ref a :: st) h := e_go dX5_tries_17 rfl rfl
theorem wX5_tries_18 : E_ d mX5_tries 18 ls st h = E_ d mX5_tries 20 ls (.int ((-2)) :: st) h := e_bipush dX5_tries_18 kbipush_m2 rfl
theorem wX5_tries_20 (ht : oT h a = 7) : E_ (d + 1) mX5_tries 20 ls [.int x1, .ref a] h = (C_ d mX5_no [.ref a, .int x1] h).bind fun r => E_ (d + 1) mX5_tries 23 ls (xpu r.1 []) r.2 := e_vir dX5_tries_20 rfl rfl rfl rfl rfl rfl (Nat.le_of_ble_eq_true rfl) (Nat.le_of_ble_eq_true rfl) ht
theorem wX5_tries_23 : E_ d mX5_tries 23 ls [.int x] h = some (some (.int x), h) := e_rt dX5_tries_23 rfl rfl
theorem wX5_tries_24 : E_ d mX5_tries 24 [s0, s1, .val (.int x), s3, s4, s5] st h = E_ d mX5_tries 25 [s0, s1, .val (.int x), s3, s4, s5] (.int x :: st) h := e_go dX5_tries_24 rfl rfl
theorem wX5_tries_25 : E_ d mX5_tries 25 ls (.int x :: st) h = E_ d mX5_tries 26 ls (.long x.toInt64 :: st) h := e_go dX5_tries_25 rfl rfl
theorem wX5_tries_26 : E_ d mX5_tries 26 ls st h = E_ d mX5_tries 27 ls (.long 1 :: st) h := e_go dX5_tries_26 rfl rfl
theorem wX5_tries_27 : E_ d mX5_tries 27 ls st h = E_ d mX5_tries 30 ls (.long (60) :: st) h := e_go dX5_tries_27 rfl rfl
theorem wX5_tries_30 : E_ (d + 1) mX5_tries 30 ls [.long u3, .long u2, .long u1] h = (C_ d mX5_within [.long u1, .long u2, .long u3] h).bind fun r => E_ (d + 1) mX5_tries 33 ls (xpu r.1 []) r.2 := e_call dX5_tries_30 rfl rfl
theorem wX5_tries_33 : E_ d mX5_tries 33 ls (.int x :: st) h = if x = 0 then E_ d mX5_tries 36 ls st h else E_ d mX5_tries 43 ls st h := e_zne dX5_tries_33 rfl rfl
theorem wX5_tries_36 : E_ d mX5_tries 36 [.val (.ref a), s1, s2, s3, s4, s5] st h = E_ d mX5_tries 37 [.val (.ref a), s1, s2, s3, s4, s5] (.ref a :: st) h := e_go dX5_tries_36 rfl rfl
theorem wX5_tries_37 : E_ d mX5_tries 37 ls st h = E_ d mX5_tries 39 ls (.int ((-3)) :: st) h := e_bipush dX5_tries_37 kbipush_m3 rfl
theorem wX5_tries_39 (ht : oT h a = 7) : E_ (d + 1) mX5_tries 39 ls [.int x1, .ref a] h = (C_ d mX5_no [.ref a, .int x1] h).bind fun r => E_ (d + 1) mX5_tries 42 ls (xpu r.1 []) r.2 := e_vir dX5_tries_39 rfl rfl rfl rfl rfl rfl (Nat.le_of_ble_eq_true rfl) (Nat.le_of_ble_eq_true rfl) ht
theorem wX5_tries_42 : E_ d mX5_tries 42 ls [.int x] h = some (some (.int x), h) := e_rt dX5_tries_42 rfl rfl
theorem wX5_tries_43 : E_ d mX5_tries 43 ls st h = E_ d mX5_tries 44 ls (.int (nI 0) :: st) h := e_iconst dX5_tries_43 kiconst_0 rfl
theorem wX5_tries_44 : E_ d mX5_tries 44 [s0, s1, s2, s3, s4, s5] (.int x :: st) h = E_ d mX5_tries 46 [s0, s1, s2, xk s3, .val (.int x), s5] st h := e_go dX5_tries_44 rfl rfl
theorem wX5_tries_46 : E_ d mX5_tries 46 ls st h = E_ d mX5_tries 47 ls (.int (nI 0) :: st) h := e_iconst dX5_tries_46 kiconst_0 rfl
theorem wX5_tries_47 : E_ d mX5_tries 47 [s0, s1, s2, s3, s4, s5] (.int x :: st) h = E_ d mX5_tries 49 [s0, s1, s2, s3, xk s4, .val (.int x)] st h := e_go dX5_tries_47 rfl rfl
theorem wX5_tries_49 : E_ d mX5_tries 49 [s0, s1, s2, s3, s4, .val (.int x)] st h = E_ d mX5_tries 51 [s0, s1, s2, s3, s4, .val (.int x)] (.int x :: st) h := e_go dX5_tries_49 rfl rfl
theorem wX5_tries_51 : E_ d mX5_tries 51 [s0, s1, .val (.int x), s3, s4, s5] st h = E_ d mX5_tries 52 [s0, s1, .val (.int x), s3, s4, s5] (.int x :: st) h := e_go dX5_tries_51 rfl rfl
theorem wX5_tries_52 : E_ d mX5_tries 52 ls (.int y :: .int x :: st) h = if x < y then E_ d mX5_tries 55 ls st h else E_ d mX5_tries 122 ls st h := e_ige dX5_tries_52 rfl rfl
theorem wX5_tries_55 : E_ d mX5_tries 55 [.val (.ref a), s1, s2, s3, s4, s5] st h = E_ d mX5_tries 56 [.val (.ref a), s1, s2, s3, s4, s5] (.ref a :: st) h := e_go dX5_tries_55 rfl rfl
theorem wX5_tries_56 : E_ d mX5_tries 56 [s0, .val (.int x), s2, s3, s4, s5] st h = E_ d mX5_tries 57 [s0, .val (.int x), s2, s3, s4, s5] (.int x :: st) h := e_go dX5_tries_56 rfl rfl
theorem wX5_tries_57 : E_ d mX5_tries 57 [s0, s1, s2, s3, s4, .val (.int x)] st h = E_ d mX5_tries 59 [s0, s1, s2, s3, s4, .val (.int x)] (.int x :: st) h := e_go dX5_tries_57 rfl rfl
theorem wX5_tries_59 : E_ d mX5_tries 59 ls (.int y :: .int x :: st) h = E_ d mX5_tries 60 ls (.int (x + y) :: st) h := e_go dX5_tries_59 rfl rfl
theorem wX5_tries_60 : E_ d mX5_tries 60 ls st h = E_ d mX5_tries 62 ls (.int (nI 99) :: st) h := e_bipush dX5_tries_60 kbipush_99 rfl
theorem wX5_tries_62 (ht : oT h a = 7) : E_ (d + 1) mX5_tries 62 ls [.int x2, .int x1, .ref a] h = (C_ d mX5_runs [.ref a, .int x1, .int x2] h).bind fun r => E_ (d + 1) mX5_tries 65 ls (xpu r.1 []) r.2 := e_vir dX5_tries_62 rfl rfl rfl rfl rfl rfl (Nat.le_of_ble_eq_true rfl) (Nat.le_of_ble_eq_true rfl) ht
theorem wX5_tries_65 : E_ d mX5_tries 65 [s0, s1, s2, s3, .val (.int x), s5] st h = E_ d mX5_tries 67 [s0, s1, s2, s3, .val (.int x), s5] (.int x :: st) h := e_go dX5_tries_65 rfl rfl
theorem wX5_tries_67 : E_ d mX5_tries 67 [s0, s1, s2, .val (.int x), s4, s5] st h = E_ d mX5_tries 68 [s0, s1, s2, .val (.int x), s4, s5] (.int x :: st) h := e_go dX5_tries_67 rfl rfl
theorem wX5_tries_68 : E_ d mX5_tries 68 ls st h = E_ d mX5_tries 69 ls (.int (nI 4) :: st) h := e_iconst dX5_tries_68 kiconst_4 rfl
theorem wX5_tries_69 : E_ d mX5_tries 69 ls (.int y :: .int x :: st) h = if x = y then E_ d mX5_tries 72 ls st h else E_ d mX5_tries 82 ls st h := e_ine dX5_tries_69 rfl rfl
theorem wX5_tries_72 : E_ d mX5_tries 72 [.val (.ref a), s1, s2, s3, s4, s5] st h = E_ d mX5_tries 73 [.val (.ref a), s1, s2, s3, s4, s5] (.ref a :: st) h := e_go dX5_tries_72 rfl rfl
theorem wX5_tries_73 (ht : oT h a = 7) : E_ d mX5_tries 73 ls (.ref a :: st) h = E_ d mX5_tries 76 ls (va_rf (oR h a 18) :: st) h := e_getR0 dX5_tries_73 rfl rfl ht
theorem wX5_tries_76 : E_ d mX5_tries 76 ls st h = E_ d mX5_tries 78 ls (.int (nI 38) :: st) h := e_bipush dX5_tries_76 kbipush_38 rfl
theorem wX5_tries_78 (ht : oT h a = 40) (hi : xix x (oN h a) = true) : E_ d mX5_tries 78 ls (.int x :: .ref a :: st) h = E_ d mX5_tries 79 ls (.int (oI h a x.toNatClampNeg) :: st) h := e_iald dX5_tries_78 rfl ht hi
theorem wX5_tries_79 : E_ d mX5_tries 79 ls st h = E_ d mX5_tries 113 ls st h := e_gt dX5_tries_79 rfl
theorem wX5_tries_82 : E_ d mX5_tries 82 [s0, s1, s2, .val (.int x), s4, s5] st h = E_ d mX5_tries 83 [s0, s1, s2, .val (.int x), s4, s5] (.int x :: st) h := e_go dX5_tries_82 rfl rfl
theorem wX5_tries_83 : E_ d mX5_tries 83 ls st h = E_ d mX5_tries 84 ls (.int (nI 5) :: st) h := e_iconst dX5_tries_83 kiconst_5 rfl
theorem wX5_tries_84 : E_ d mX5_tries 84 ls (.int y :: .int x :: st) h = if x = y then E_ d mX5_tries 87 ls st h else E_ d mX5_tries 97 ls st h := e_ine dX5_tries_84 rfl rfl
theorem wX5_tries_87 : E_ d mX5_tries 87 [.val (.ref a), s1, s2, s3, s4, s5] st h = E_ d mX5_tries 88 [.val (.ref a), s1, s2, s3, s4, s5] (.ref a :: st) h := e_go dX5_tries_87 rfl rfl
theorem wX5_tries_88 (ht : oT h a = 7) : E_ d mX5_tries 88 ls (.ref a :: st) h = E_ d mX5_tries 91 ls (va_rf (oR h a 18) :: st) h := e_getR0 dX5_tries_88 rfl rfl ht
theorem wX5_tries_91 : E_ d mX5_tries 91 ls st h = E_ d mX5_tries 93 ls (.int (nI 36) :: st) h := e_bipush dX5_tries_91 kbipush_36 rfl
theorem wX5_tries_93 (ht : oT h a = 40) (hi : xix x (oN h a) = true) : E_ d mX5_tries 93 ls (.int x :: .ref a :: st) h = E_ d mX5_tries 94 ls (.int (oI h a x.toNatClampNeg) :: st) h := e_iald dX5_tries_93 rfl ht hi
theorem wX5_tries_94 : E_ d mX5_tries 94 ls st h = E_ d mX5_tries 113 ls st h := e_gt dX5_tries_94 rfl
theorem wX5_tries_97 : E_ d mX5_tries 97 [.val (.ref a), s1, s2, s3, s4, s5] st h = E_ d mX5_tries 98 [.val (.ref a), s1, s2, s3, s4, s5] (.ref a :: st) h := e_go dX5_tries_97 rfl rfl
theorem wX5_tries_98 (ht : oT h a = 7) : E_ d mX5_tries 98 ls (.ref a :: st) h = E_ d mX5_tries 101 ls (va_rf (oR h a 18) :: st) h := e_getR0 dX5_tries_98 rfl rfl ht
theorem wX5_tries_101 : E_ d mX5_tries 101 ls st h = E_ d mX5_tries 103 ls (.int (nI 37) :: st) h := e_bipush dX5_tries_101 kbipush_37 rfl
theorem wX5_tries_103 (ht : oT h a = 40) (hi : xix x (oN h a) = true) : E_ d mX5_tries 103 ls (.int x :: .ref a :: st) h = E_ d mX5_tries 104 ls (.int (oI h a x.toNatClampNeg) :: st) h := e_iald dX5_tries_103 rfl ht hi
theorem wX5_tries_104 : E_ d mX5_tries 104 [s0, s1, s2, .val (.int x), s4, s5] st h = E_ d mX5_tries 105 [s0, s1, s2, .val (.int x), s4, s5] (.int x :: st) h := e_go dX5_tries_104 rfl rfl
theorem wX5_tries_105 : E_ d mX5_tries 105 ls (.int y :: .int x :: st) h = if x = y then E_ d mX5_tries 108 ls st h else E_ d mX5_tries 112 ls st h := e_ine dX5_tries_105 rfl rfl
theorem wX5_tries_108 : E_ d mX5_tries 108 ls st h = E_ d mX5_tries 109 ls (.int (nI 1) :: st) h := e_iconst dX5_tries_108 kiconst_1 rfl
theorem wX5_tries_109 : E_ d mX5_tries 109 ls st h = E_ d mX5_tries 113 ls st h := e_gt dX5_tries_109 rfl
theorem wX5_tries_112 : E_ d mX5_tries 112 ls st h = E_ d mX5_tries 113 ls (.int (nI 0) :: st) h := e_iconst dX5_tries_112 kiconst_0 rfl
theorem wX5_tries_113 : E_ d mX5_tries 113 ls (.int y :: .int x :: st) h = E_ d mX5_tries 114 ls (.int (x + y) :: st) h := e_go dX5_tries_113 rfl rfl
theorem wX5_tries_114 : E_ d mX5_tries 114 [s0, s1, s2, s3, s4, s5] (.int x :: st) h = E_ d mX5_tries 116 [s0, s1, s2, xk s3, .val (.int x), s5] st h := e_go dX5_tries_114 rfl rfl
theorem wX5_tries_116 : E_ d mX5_tries 116 [s0, s1, s2, s3, s4, .val (.int x)] st h = E_ d mX5_tries 119 [s0, s1, s2, s3, xk s4, .val (.int (x + nI 1))] st h := by rw [← kiinc_1]; exact e_go dX5_tries_116 rfl rfl
theorem wX5_tries_119 : E_ d mX5_tries 119 ls st h = E_ d mX5_tries 49 ls st h := e_gt dX5_tries_119 rfl
theorem wX5_tries_122 : E_ d mX5_tries 122 [s0, s1, s2, s3, .val (.int x), s5] st h = E_ d mX5_tries 124 [s0, s1, s2, s3, .val (.int x), s5] (.int x :: st) h := e_go dX5_tries_122 rfl rfl
theorem wX5_tries_124 : E_ d mX5_tries 124 ls [.int x] h = some (some (.int x), h) := e_rt dX5_tries_124 rfl rfl
/-! FootOutModel.odds -/
theorem wX5_odds_0 : E_ d mX5_odds 0 [.val (.ref a), s1] st h = E_ d mX5_odds 1 [.val (.ref a), s1] (.ref a :: st) h := e_go dX5_odds_0 rfl rfl
theorem wX5_odds_1 : E_ d mX5_odds 1 ls st h = E_ d mX5_odds 2 ls (.int (nI 0) :: st) h := e_iconst dX5_odds_1 kiconst_0 rfl
theorem wX5_odds_2 (ht : oT h a = 7) : E_ d mX5_odds 2 ls (.int x :: .ref a :: st) h = E_ d mX5_odds 5 ls st (pI h a (va_up (oI h a) 0 x)) := e_putI dX5_odds_2 rfl rfl ht
theorem wX5_odds_5 : E_ d mX5_odds 5 [s0, .val (.int x)] st h = E_ d mX5_odds 6 [s0, .val (.int x)] (.int x :: st) h := e_go dX5_odds_5 rfl rfl
theorem wX5_odds_6 : E_ d mX5_odds 6 ls (.int x :: st) h = E_ d mX5_odds 7 ls (.long x.toInt64 :: st) h := e_go dX5_odds_6 rfl rfl
theorem wX5_odds_7 : E_ d mX5_odds 7 ls st h = E_ d mX5_odds 8 ls (.long 0 :: st) h := e_go dX5_odds_7 rfl rfl
theorem wX5_odds_8 : E_ d mX5_odds 8 ls st h = E_ d mX5_odds 11 ls (.long (5) :: st) h := e_go dX5_odds_8 rfl rfl
theorem wX5_odds_11 : E_ (d + 1) mX5_odds 11 ls [.long u3, .long u2, .long u1] h = (C_ d mX5_within [.long u1, .long u2, .long u3] h).bind fun r => E_ (d + 1) mX5_odds 14 ls (xpu r.1 []) r.2 := e_call dX5_odds_11 rfl rfl
theorem wX5_odds_14 : E_ d mX5_odds 14 ls (.int x :: st) h = if x = 0 then E_ d mX5_odds 17 ls st h else E_ d mX5_odds 25 ls st h := e_zne dX5_odds_14 rfl rfl
theorem wX5_odds_17 : E_ d mX5_odds 17 [.val (.ref a), s1] st h = E_ d mX5_odds 18 [.val (.ref a), s1] (.ref a :: st) h := e_go dX5_odds_17 rfl rfl
theorem wX5_odds_18 : E_ d mX5_odds 18 ls st h = E_ d mX5_odds 20 ls (.int ((-2)) :: st) h := e_bipush dX5_odds_18 kbipush_m2 rfl
theorem wX5_odds_20 (ht : oT h a = 7) : E_ (d + 1) mX5_odds 20 ls [.int x1, .ref a] h = (C_ d mX5_no [.ref a, .int x1] h).bind fun r => E_ (d + 1) mX5_odds 23 ls (xpu r.1 []) r.2 := e_vir dX5_odds_20 rfl rfl rfl rfl rfl rfl (Nat.le_of_ble_eq_true rfl) (Nat.le_of_ble_eq_true rfl) ht
theorem wX5_odds_23 : E_ d mX5_odds 23 ls (.int x :: st) h = E_ d mX5_odds 24 ls (.long x.toInt64 :: st) h := e_go dX5_odds_23 rfl rfl
theorem wX5_odds_24 : E_ d mX5_odds 24 ls [.long u] h = some (some (.long u), h) := e_rt dX5_odds_24 rfl rfl
theorem wX5_odds_25 : E_ d mX5_odds 25 [.val (.ref a), s1] st h = E_ d mX5_odds 26 [.val (.ref a), s1] (.ref a :: st) h := e_go dX5_odds_25 rfl rfl
theorem wX5_odds_26 (ht : oT h a = 7) : E_ (d + 1) mX5_odds 26 ls [.ref a] h = (C_ d mX5_worksOdds [.ref a] h).bind fun r => E_ (d + 1) mX5_odds 29 ls (xpu r.1 []) r.2 := e_vir dX5_odds_26 rfl rfl rfl rfl rfl rfl (Nat.le_of_ble_eq_true rfl) (Nat.le_of_ble_eq_true rfl) ht
theorem wX5_odds_29 : E_ d mX5_odds 29 [s0, .val (.int x)] st h = E_ d mX5_odds 30 [s0, .val (.int x)] (.int x :: st) h := e_go dX5_odds_29 rfl rfl
theorem wX5_odds_30 : E_ d mX5_odds 30 ls st h = E_ d mX5_odds 31 ls (.int (nI 5) :: st) h := e_iconst dX5_odds_30 kiconst_5 rfl
theorem wX5_odds_31 : E_ d mX5_odds 31 ls (.int y :: .int x :: st) h = if x = y then E_ d mX5_odds 34 ls st h else E_ d mX5_odds 41 ls st h := e_ine dX5_odds_31 rfl rfl
theorem wX5_odds_34 : E_ d mX5_odds 34 [.val (.ref a), s1] st h = E_ d mX5_odds 35 [.val (.ref a), s1] (.ref a :: st) h := e_go dX5_odds_34 rfl rfl
theorem wX5_odds_35 (ht : oT h a = 7) : E_ (d + 1) mX5_odds 35 ls [.ref a] h = (C_ d mX5_allParts [.ref a] h).bind fun r => E_ (d + 1) mX5_odds 38 ls (xpu r.1 []) r.2 := e_vir dX5_odds_35 rfl rfl rfl rfl rfl rfl (Nat.le_of_ble_eq_true rfl) (Nat.le_of_ble_eq_true rfl) ht
theorem wX5_odds_38 : E_ d mX5_odds 38 ls st h = E_ d mX5_odds 47 ls st h := e_gt dX5_odds_38 rfl
theorem wX5_odds_41 : E_ d mX5_odds 41 [.val (.ref a), s1] st h = E_ d mX5_odds 42 [.val (.ref a), s1] (.ref a :: st) h := e_go dX5_odds_41 rfl rfl
theorem wX5_odds_42 (ht : oT h a = 7) : E_ d mX5_odds 42 ls (.ref a :: st) h = E_ d mX5_odds 45 ls (va_rf (oR h a 27) :: st) h := e_getR0 dX5_odds_42 rfl rfl ht
theorem wX5_odds_45 : E_ d mX5_odds 45 [s0, .val (.int x)] st h = E_ d mX5_odds 46 [s0, .val (.int x)] (.int x :: st) h := e_go dX5_odds_45 rfl rfl
theorem wX5_odds_46 (ht : oT h a = 44) (hi : xix x (oN h a) = true) : E_ d mX5_odds 46 ls (.int x :: .ref a :: st) h = E_ d mX5_odds 47 ls (.long (oL h a x.toNatClampNeg) :: st) h := e_lald dX5_odds_46 rfl ht hi
theorem wX5_odds_47 : E_ d mX5_odds 47 ls [.long u] h = some (some (.long u), h) := e_rt dX5_odds_47 rfl rfl
/-! FootOutModel.worksOdds -/
theorem wX5_worksOdds_0 : E_ d mX5_worksOdds 0 ls st h = E_ d mX5_worksOdds 1 ls (.int (nI 0) :: st) h := e_iconst dX5_worksOdds_0 kiconst_0 rfl
theorem wX5_worksOdds_1 : E_ d mX5_worksOdds 1 [s0, s1] (.int x :: st) h = E_ d mX5_worksOdds 2 [xk s0, .val (.int x)] st h := e_go dX5_worksOdds_1 rfl rfl
theorem wX5_worksOdds_2 : E_ d mX5_worksOdds 2 [s0, .val (.int x)] st h = E_ d mX5_worksOdds 3 [s0, .val (.int x)] (.int x :: st) h := e_go dX5_worksOdds_2 rfl rfl
theorem wX5_worksOdds_3 : E_ d mX5_worksOdds 3 ls st h = E_ d mX5_worksOdds 4 ls (.int (nI 5) :: st) h := e_iconst dX5_worksOdds_3 kiconst_5 rfl
theorem wX5_worksOdds_4 : E_ d mX5_worksOdds 4 ls (.int y :: .int x :: st) h = if x < y then E_ d mX5_worksOdds 7 ls st h else E_ d mX5_worksOdds 20 ls st h := e_ige dX5_worksOdds_4 rfl rfl
theorem wX5_worksOdds_7 : E_ d mX5_worksOdds 7 [.val (.ref a), s1] st h = E_ d mX5_worksOdds 8 [.val (.ref a), s1] (.ref a :: st) h := e_go dX5_worksOdds_7 rfl rfl
theorem wX5_worksOdds_8 (ht : oT h a = 7) : E_ d mX5_worksOdds 8 ls (.ref a :: st) h = E_ d mX5_worksOdds 11 ls (va_rf (oR h a 27) :: st) h := e_getR0 dX5_worksOdds_8 rfl rfl ht
theorem wX5_worksOdds_11 : E_ d mX5_worksOdds 11 [s0, .val (.int x)] st h = E_ d mX5_worksOdds 12 [s0, .val (.int x)] (.int x :: st) h := e_go dX5_worksOdds_11 rfl rfl
theorem wX5_worksOdds_12 : E_ d mX5_worksOdds 12 ls st h = E_ d mX5_worksOdds 13 ls (.long 0 :: st) h := e_go dX5_worksOdds_12 rfl rfl
theorem wX5_worksOdds_13 (ht : oT h a = 44) (hi : xix x (oN h a) = true) : E_ d mX5_worksOdds 13 ls (.long u :: .int x :: .ref a :: st) h = E_ d mX5_worksOdds 14 ls st (pL h a (va_up (oL h a) x.toNatClampNeg u)) := e_last dX5_worksOdds_13 rfl ht hi
theorem wX5_worksOdds_14 : E_ d mX5_worksOdds 14 [s0, .val (.int x)] st h = E_ d mX5_worksOdds 17 [xk s0, .val (.int (x + nI 1))] st h := by rw [← kiinc_1]; exact e_go dX5_worksOdds_14 rfl rfl
theorem wX5_worksOdds_17 : E_ d mX5_worksOdds 17 ls st h = E_ d mX5_worksOdds 2 ls st h := e_gt dX5_worksOdds_17 rfl
theorem wX5_worksOdds_20 : E_ d mX5_worksOdds 20 ls st h = E_ d mX5_worksOdds 21 ls (.int (nI 0) :: st) h := e_iconst dX5_worksOdds_20 kiconst_0 rfl
theorem wX5_worksOdds_21 : E_ d mX5_worksOdds 21 [s0, s1] (.int x :: st) h = E_ d mX5_worksOdds 22 [xk s0, .val (.int x)] st h := e_go dX5_worksOdds_21 rfl rfl
theorem wX5_worksOdds_22 : E_ d mX5_worksOdds 22 [s0, .val (.int x)] st h = E_ d mX5_worksOdds 23 [s0, .val (.int x)] (.int x :: st) h := e_go dX5_worksOdds_22 rfl rfl
theorem wX5_worksOdds_23 : E_ d mX5_worksOdds 23 ls st h = E_ d mX5_worksOdds 25 ls (.int (nI 8) :: st) h := e_bipush dX5_worksOdds_23 kbipush_8 rfl
theorem wX5_worksOdds_25 : E_ d mX5_worksOdds 25 ls (.int y :: .int x :: st) h = if x < y then E_ d mX5_worksOdds 28 ls st h else E_ d mX5_worksOdds 48 ls st h := e_ige dX5_worksOdds_25 rfl rfl
theorem wX5_worksOdds_28 : E_ d mX5_worksOdds 28 [.val (.ref a), s1] st h = E_ d mX5_worksOdds 29 [.val (.ref a), s1] (.ref a :: st) h := e_go dX5_worksOdds_28 rfl rfl
theorem wX5_worksOdds_29 (ht : oT h a = 7) : E_ d mX5_worksOdds 29 ls (.ref a :: st) h = E_ d mX5_worksOdds 32 ls (va_rf (oR h a 28) :: st) h := e_getR0 dX5_worksOdds_29 rfl rfl ht
theorem wX5_worksOdds_32 : E_ d mX5_worksOdds 32 [s0, .val (.int x)] st h = E_ d mX5_worksOdds 33 [s0, .val (.int x)] (.int x :: st) h := e_go dX5_worksOdds_32 rfl rfl
theorem wX5_worksOdds_33 : E_ d mX5_worksOdds 33 ls st h = E_ d mX5_worksOdds 34 ls (.long 0 :: st) h := e_go dX5_worksOdds_33 rfl rfl
theorem wX5_worksOdds_34 (ht : oT h a = 44) (hi : xix x (oN h a) = true) : E_ d mX5_worksOdds 34 ls (.long u :: .int x :: .ref a :: st) h = E_ d mX5_worksOdds 35 ls st (pL h a (va_up (oL h a) x.toNatClampNeg u)) := e_last dX5_worksOdds_34 rfl ht hi
theorem wX5_worksOdds_35 : E_ d mX5_worksOdds 35 [.val (.ref a), s1] st h = E_ d mX5_worksOdds 36 [.val (.ref a), s1] (.ref a :: st) h := e_go dX5_worksOdds_35 rfl rfl
theorem wX5_worksOdds_36 (ht : oT h a = 7) : E_ d mX5_worksOdds 36 ls (.ref a :: st) h = E_ d mX5_worksOdds 39 ls (va_rf (oR h a 29) :: st) h := e_getR0 dX5_worksOdds_36 rfl rfl ht
theorem wX5_worksOdds_39 : E_ d mX5_worksOdds 39 [s0, .val (.int x)] st h = E_ d mX5_worksOdds 40 [s0, .val (.int x)] (.int x :: st) h := e_go dX5_worksOdds_39 rfl rfl
theorem wX5_worksOdds_40 : E_ d mX5_worksOdds 40 ls st h = E_ d mX5_worksOdds 41 ls (.long 0 :: st) h := e_go dX5_worksOdds_40 rfl rfl
theorem wX5_worksOdds_41 (ht : oT h a = 44) (hi : xix x (oN h a) = true) : E_ d mX5_worksOdds 41 ls (.long u :: .int x :: .ref a :: st) h = E_ d mX5_worksOdds 42 ls st (pL h a (va_up (oL h a) x.toNatClampNeg u)) := e_last dX5_worksOdds_41 rfl ht hi
theorem wX5_worksOdds_42 : E_ d mX5_worksOdds 42 [s0, .val (.int x)] st h = E_ d mX5_worksOdds 45 [xk s0, .val (.int (x + nI 1))] st h := by rw [← kiinc_1]; exact e_go dX5_worksOdds_42 rfl rfl
theorem wX5_worksOdds_45 : E_ d mX5_worksOdds 45 ls st h = E_ d mX5_worksOdds 22 ls st h := e_gt dX5_worksOdds_45 rfl
theorem wX5_worksOdds_48 : E_ d mX5_worksOdds 48 [.val (.ref a), s1] st h = E_ d mX5_worksOdds 49 [.val (.ref a), s1] (.ref a :: st) h := e_go dX5_worksOdds_48 rfl rfl
theorem wX5_worksOdds_49 : E_ d mX5_worksOdds 49 ls st h = E_ d mX5_worksOdds 50 ls (.int (nI 0) :: st) h := e_iconst dX5_worksOdds_49 kiconst_0 rfl
theorem wX5_worksOdds_50 (ht : oT h a = 7) : E_ (d + 1) mX5_worksOdds 50 ls [.int x1, .ref a] h = (C_ d mX5_begins [.ref a, .int x1] h).bind fun r => E_ (d + 1) mX5_worksOdds 53 ls (xpu r.1 []) r.2 := e_vir dX5_worksOdds_50 rfl rfl rfl rfl rfl rfl (Nat.le_of_ble_eq_true rfl) (Nat.le_of_ble_eq_true rfl) ht
theorem wX5_worksOdds_53 : E_ d mX5_worksOdds 53 [.val (.ref a), s1] st h = E_ d mX5_worksOdds 54 [.val (.ref a), s1] (.ref a :: st) h := e_go dX5_worksOdds_53 rfl rfl
theorem wX5_worksOdds_54 : E_ d mX5_worksOdds 54 ls st h = E_ d mX5_worksOdds 55 ls (.int (nI 0) :: st) h := e_iconst dX5_worksOdds_54 kiconst_0 rfl
theorem wX5_worksOdds_55 : E_ d mX5_worksOdds 55 [.val (.ref a), s1] st h = E_ d mX5_worksOdds 56 [.val (.ref a), s1] (.ref a :: st) h := e_go dX5_worksOdds_55 rfl rfl
theorem wX5_worksOdds_56 (ht : oT h a = 7) : E_ (d + 1) mX5_worksOdds 56 ls [.ref a, .int x1, .ref r1] h = (C_ d mX5_allParts [.ref a] h).bind fun r => E_ (d + 1) mX5_worksOdds 59 ls (xpu r.1 [.int x1, .ref r1]) r.2 := e_vir dX5_worksOdds_56 rfl rfl rfl rfl rfl rfl (Nat.le_of_ble_eq_true rfl) (Nat.le_of_ble_eq_true rfl) ht
theorem wX5_worksOdds_59 (ht : oT h a = 7) : E_ (d + 1) mX5_worksOdds 59 ls [.long u1, .int x1, .ref a] h = (C_ d mX5_branches [.ref a, .int x1, .long u1] h).bind fun r => E_ (d + 1) mX5_worksOdds 62 ls (xpu r.1 []) r.2 := e_vir dX5_worksOdds_59 rfl rfl rfl rfl rfl rfl (Nat.le_of_ble_eq_true rfl) (Nat.le_of_ble_eq_true rfl) ht
theorem wX5_worksOdds_62 : E_ d mX5_worksOdds 62 ls [] h = some (none, h) := e_rt dX5_worksOdds_62 rfl rfl
/-! FootOutModel.allParts -/
theorem wX5_allParts_0 : E_ d mX5_allParts 0 ls st h = E_ d mX5_allParts 1 ls (.long 1 :: st) h := e_go dX5_allParts_0 rfl rfl
theorem wX5_allParts_1 : E_ d mX5_allParts 1 [s0, s1, s2, s3] (.long u :: st) h = E_ d mX5_allParts 2 [xk s0, .val (.long u), .unset, s3] st h := e_go dX5_allParts_1 rfl rfl
theorem wX5_allParts_2 : E_ d mX5_allParts 2 ls st h = E_ d mX5_allParts 3 ls (.int (nI 0) :: st) h := e_iconst dX5_allParts_2 kiconst_0 rfl
theorem wX5_allParts_3 : E_ d mX5_allParts 3 [s0, s1, s2, s3] (.int x :: st) h = E_ d mX5_allParts 4 [s0, s1, xk s2, .val (.int x)] st h := e_go dX5_allParts_3 rfl rfl
theorem wX5_allParts_4 : E_ d mX5_allParts 4 [s0, s1, s2, .val (.int x)] st h = E_ d mX5_allParts 5 [s0, s1, s2, .val (.int x)] (.int x :: st) h := e_go dX5_allParts_4 rfl rfl
theorem wX5_allParts_5 : E_ d mX5_allParts 5 [.val (.ref a), s1, s2, s3] st h = E_ d mX5_allParts 6 [.val (.ref a), s1, s2, s3] (.ref a :: st) h := e_go dX5_allParts_5 rfl rfl
theorem wX5_allParts_6 (ht : oT h a = 7) : E_ d mX5_allParts 6 ls (.ref a :: st) h = E_ d mX5_allParts 9 ls (va_rf (oR h a 2) :: st) h := e_getR0 dX5_allParts_6 rfl rfl ht
theorem wX5_allParts_9 : E_ d mX5_allParts 9 ls st h = E_ d mX5_allParts 10 ls (.int (nI 1) :: st) h := e_iconst dX5_allParts_9 kiconst_1 rfl
theorem wX5_allParts_10 (ht : oT h a = 40) (hi : xix x (oN h a) = true) : E_ d mX5_allParts 10 ls (.int x :: .ref a :: st) h = E_ d mX5_allParts 11 ls (.int (oI h a x.toNatClampNeg) :: st) h := e_iald dX5_allParts_10 rfl ht hi
theorem wX5_allParts_11 : E_ d mX5_allParts 11 ls (.int y :: .int x :: st) h = if x < y then E_ d mX5_allParts 14 ls st h else E_ d mX5_allParts 26 ls st h := e_ige dX5_allParts_11 rfl rfl
theorem wX5_allParts_14 : E_ d mX5_allParts 14 [s0, .val (.long u), s2, s3] st h = E_ d mX5_allParts 15 [s0, .val (.long u), s2, s3] (.long u :: st) h := e_go dX5_allParts_14 rfl rfl
theorem wX5_allParts_15 : E_ d mX5_allParts 15 ls st h = E_ d mX5_allParts 18 ls (.long (100) :: st) h := e_go dX5_allParts_15 rfl rfl
theorem wX5_allParts_18 : E_ d mX5_allParts 18 ls (.long v :: .long u :: st) h = E_ d mX5_allParts 19 ls (.long (u * v) :: st) h := e_go dX5_allParts_18 rfl rfl
theorem wX5_allParts_19 : E_ d mX5_allParts 19 [s0, s1, s2, s3] (.long u :: st) h = E_ d mX5_allParts 20 [xk s0, .val (.long u), .unset, s3] st h := e_go dX5_allParts_19 rfl rfl
theorem wX5_allParts_20 : E_ d mX5_allParts 20 [s0, s1, s2, .val (.int x)] st h = E_ d mX5_allParts 23 [s0, s1, xk s2, .val (.int (x + nI 1))] st h := by rw [← kiinc_1]; exact e_go dX5_allParts_20 rfl rfl
theorem wX5_allParts_23 : E_ d mX5_allParts 23 ls st h = E_ d mX5_allParts 4 ls st h := e_gt dX5_allParts_23 rfl
theorem wX5_allParts_26 : E_ d mX5_allParts 26 [s0, .val (.long u), s2, s3] st h = E_ d mX5_allParts 27 [s0, .val (.long u), s2, s3] (.long u :: st) h := e_go dX5_allParts_26 rfl rfl
theorem wX5_allParts_27 : E_ d mX5_allParts 27 ls [.long u] h = some (some (.long u), h) := e_rt dX5_allParts_27 rfl rfl
/-! FootOutModel.branches -/
theorem wX5_branches_0 : E_ d mX5_branches 0 ls st h = E_ d mX5_branches 1 ls (.int ((-1)) :: st) h := e_iconst dX5_branches_0 kiconst_m1 rfl
theorem wX5_branches_1 : E_ d mX5_branches 1 [s0, s1, s2, s3, s4, s5, s6] (.int x :: st) h = E_ d mX5_branches 3 [s0, s1, s2, xk s3, .val (.int x), s5, s6] st h := e_go dX5_branches_1 rfl rfl
theorem wX5_branches_3 : E_ d mX5_branches 3 [.val (.ref a), s1, s2, s3, s4, s5, s6] st h = E_ d mX5_branches 4 [.val (.ref a), s1, s2, s3, s4, s5, s6] (.ref a :: st) h := e_go dX5_branches_3 rfl rfl
theorem wX5_branches_4 (ht : oT h a = 7) : E_ d mX5_branches 4 ls (.ref a :: st) h = E_ d mX5_branches 7 ls (va_rf (oR h a 18) :: st) h := e_getR0 dX5_branches_4 rfl rfl ht
theorem wX5_branches_7 : E_ d mX5_branches 7 ls st h = E_ d mX5_branches 9 ls (.int (nI 37) :: st) h := e_bipush dX5_branches_7 kbipush_37 rfl
theorem wX5_branches_9 (ht : oT h a = 40) (hi : xix x (oN h a) = true) : E_ d mX5_branches 9 ls (.int x :: .ref a :: st) h = E_ d mX5_branches 10 ls (.int (oI h a x.toNatClampNeg) :: st) h := e_iald dX5_branches_9 rfl ht hi
theorem wX5_branches_10 : E_ d mX5_branches 10 ls (.int x :: st) h = if x = 0 then E_ d mX5_branches 13 ls st h else E_ d mX5_branches 39 ls st h := e_zne dX5_branches_10 rfl rfl
theorem wX5_branches_13 : E_ d mX5_branches 13 [s0, s1, s2, s3, .val (.int x), s5, s6] st h = E_ d mX5_branches 15 [s0, s1, s2, s3, .val (.int x), s5, s6] (.int x :: st) h := e_go dX5_branches_13 rfl rfl
theorem wX5_branches_15 : E_ d mX5_branches 15 ls st h = E_ d mX5_branches 16 ls (.int ((-1)) :: st) h := e_iconst dX5_branches_15 kiconst_m1 rfl
theorem wX5_branches_16 : E_ d mX5_branches 16 ls (.int y :: .int x :: st) h = if x = y then E_ d mX5_branches 19 ls st h else E_ d mX5_branches 39 ls st h := e_ine dX5_branches_16 rfl rfl
theorem wX5_branches_19 : E_ d mX5_branches 19 [.val (.ref a), s1, s2, s3, s4, s5, s6] st h = E_ d mX5_branches 20 [.val (.ref a), s1, s2, s3, s4, s5, s6] (.ref a :: st) h := e_go dX5_branches_19 rfl rfl
theorem wX5_branches_20 : E_ d mX5_branches 20 ls st h = E_ d mX5_branches 21 ls (.int (nI 0) :: st) h := e_iconst dX5_branches_20 kiconst_0 rfl
theorem wX5_branches_21 (ht : oT h a = 7) : E_ (d + 1) mX5_branches 21 ls [.int x1, .ref a] h = (C_ d mX5_decides [.ref a, .int x1] h).bind fun r => E_ (d + 1) mX5_branches 24 ls (xpu r.1 []) r.2 := e_vir dX5_branches_21 rfl rfl rfl rfl rfl rfl (Nat.le_of_ble_eq_true rfl) (Nat.le_of_ble_eq_true rfl) ht
theorem wX5_branches_24 : E_ d mX5_branches 24 [s0, s1, s2, s3, s4, s5, s6] (.int x :: st) h = E_ d mX5_branches 26 [s0, s1, s2, xk s3, .val (.int x), s5, s6] st h := e_go dX5_branches_24 rfl rfl
theorem wX5_branches_26 : E_ d mX5_branches 26 [s0, s1, s2, s3, .val (.int x), s5, s6] st h = E_ d mX5_branches 28 [s0, s1, s2, s3, .val (.int x), s5, s6] (.int x :: st) h := e_go dX5_branches_26 rfl rfl
theorem wX5_branches_28 : E_ d mX5_branches 28 ls st h = E_ d mX5_branches 29 ls (.int ((-1)) :: st) h := e_iconst dX5_branches_28 kiconst_m1 rfl
theorem wX5_branches_29 : E_ d mX5_branches 29 ls (.int y :: .int x :: st) h = if x = y then E_ d mX5_branches 32 ls st h else E_ d mX5_branches 3 ls st h := e_ine dX5_branches_29 rfl rfl
theorem wX5_branches_32 : E_ d mX5_branches 32 [.val (.ref a), s1, s2, s3, s4, s5, s6] st h = E_ d mX5_branches 33 [.val (.ref a), s1, s2, s3, s4, s5, s6] (.ref a :: st) h := e_go dX5_branches_32 rfl rfl
theorem wX5_branches_33 (ht : oT h a = 7) : E_ (d + 1) mX5_branches 33 ls [.ref a] h = (C_ d mX5_ticks [.ref a] h).bind fun r => E_ (d + 1) mX5_branches 36 ls (xpu r.1 []) r.2 := e_vir dX5_branches_33 rfl rfl rfl rfl rfl rfl (Nat.le_of_ble_eq_true rfl) (Nat.le_of_ble_eq_true rfl) ht
theorem wX5_branches_36 : E_ d mX5_branches 36 ls st h = E_ d mX5_branches 3 ls st h := e_gt dX5_branches_36 rfl
theorem wX5_branches_39 : E_ d mX5_branches 39 [.val (.ref a), s1, s2, s3, s4, s5, s6] st h = E_ d mX5_branches 40 [.val (.ref a), s1, s2, s3, s4, s5, s6] (.ref a :: st) h := e_go dX5_branches_39 rfl rfl
theorem wX5_branches_40 (ht : oT h a = 7) : E_ d mX5_branches 40 ls (.ref a :: st) h = E_ d mX5_branches 43 ls (va_rf (oR h a 18) :: st) h := e_getR0 dX5_branches_40 rfl rfl ht
theorem wX5_branches_43 : E_ d mX5_branches 43 ls st h = E_ d mX5_branches 45 ls (.int (nI 37) :: st) h := e_bipush dX5_branches_43 kbipush_37 rfl
theorem wX5_branches_45 (ht : oT h a = 40) (hi : xix x (oN h a) = true) : E_ d mX5_branches 45 ls (.int x :: .ref a :: st) h = E_ d mX5_branches 46 ls (.int (oI h a x.toNatClampNeg) :: st) h := e_iald dX5_branches_45 rfl ht hi
theorem wX5_branches_46 : E_ d mX5_branches 46 ls (.int x :: st) h = if x = 0 then E_ d mX5_branches 182 ls st h else E_ d mX5_branches 49 ls st h := e_zeq dX5_branches_46 rfl rfl
theorem wX5_branches_49 : E_ d mX5_branches 49 [.val (.ref a), s1, s2, s3, s4, s5, s6] st h = E_ d mX5_branches 50 [.val (.ref a), s1, s2, s3, s4, s5, s6] (.ref a :: st) h := e_go dX5_branches_49 rfl rfl
theorem wX5_branches_50 (ht : oT h a = 7) : E_ d mX5_branches 50 ls (.ref a :: st) h = E_ d mX5_branches 53 ls (va_rf (oR h a 27) :: st) h := e_getR0 dX5_branches_50 rfl rfl ht
theorem wX5_branches_53 : E_ d mX5_branches 53 [.val (.ref a), s1, s2, s3, s4, s5, s6] st h = E_ d mX5_branches 54 [.val (.ref a), s1, s2, s3, s4, s5, s6] (.ref a :: st) h := e_go dX5_branches_53 rfl rfl
theorem wX5_branches_54 (ht : oT h a = 7) : E_ d mX5_branches 54 ls (.ref a :: st) h = E_ d mX5_branches 57 ls (va_rf (oR h a 18) :: st) h := e_getR0 dX5_branches_54 rfl rfl ht
theorem wX5_branches_57 : E_ d mX5_branches 57 ls st h = E_ d mX5_branches 59 ls (.int (nI 37) :: st) h := e_bipush dX5_branches_57 kbipush_37 rfl
theorem wX5_branches_59 (ht : oT h a = 40) (hi : xix x (oN h a) = true) : E_ d mX5_branches 59 ls (.int x :: .ref a :: st) h = E_ d mX5_branches 60 ls (.int (oI h a x.toNatClampNeg) :: st) h := e_iald dX5_branches_59 rfl ht hi
theorem wX5_branches_60 : E_ d mX5_branches 60 ls st h = E_ d mX5_branches 61 ls (.int (nI 1) :: st) h := e_iconst dX5_branches_60 kiconst_1 rfl
theorem wX5_branches_61 : E_ d mX5_branches 61 ls (.int y :: .int x :: st) h = E_ d mX5_branches 62 ls (.int (x - y) :: st) h := e_go dX5_branches_61 rfl rfl
theorem wX5_branches_62 : E_ d mX5_branches 62 ls (.int x :: .ref b :: st) h = E_ d mX5_branches 63 ls (.int x :: .ref b :: .int x :: .ref b :: st) h := e_go dX5_branches_62 rfl rfl
theorem wX5_branches_63 (ht : oT h a = 44) (hi : xix x (oN h a) = true) : E_ d mX5_branches 63 ls (.int x :: .ref a :: st) h = E_ d mX5_branches 64 ls (.long (oL h a x.toNatClampNeg) :: st) h := e_lald dX5_branches_63 rfl ht hi
theorem wX5_branches_64 : E_ d mX5_branches 64 [s0, s1, .val (.long u), s3, s4, s5, s6] st h = E_ d mX5_branches 65 [s0, s1, .val (.long u), s3, s4, s5, s6] (.long u :: st) h := e_go dX5_branches_64 rfl rfl
theorem wX5_branches_65 : E_ d mX5_branches 65 ls (.long v :: .long u :: st) h = E_ d mX5_branches 66 ls (.long (u + v) :: st) h := e_go dX5_branches_65 rfl rfl
theorem wX5_branches_66 (ht : oT h a = 44) (hi : xix x (oN h a) = true) : E_ d mX5_branches 66 ls (.long u :: .int x :: .ref a :: st) h = E_ d mX5_branches 67 ls st (pL h a (va_up (oL h a) x.toNatClampNeg u)) := e_last dX5_branches_66 rfl ht hi
theorem wX5_branches_67 : E_ d mX5_branches 67 [.val (.ref a), s1, s2, s3, s4, s5, s6] st h = E_ d mX5_branches 68 [.val (.ref a), s1, s2, s3, s4, s5, s6] (.ref a :: st) h := e_go dX5_branches_67 rfl rfl
theorem wX5_branches_68 (ht : oT h a = 7) : E_ d mX5_branches 68 ls (.ref a :: st) h = E_ d mX5_branches 71 ls (va_rf (oR h a 27) :: st) h := e_getR0 dX5_branches_68 rfl rfl ht
theorem wX5_branches_71 : E_ d mX5_branches 71 ls st h = E_ d mX5_branches 72 ls (.int (nI 3) :: st) h := e_iconst dX5_branches_71 kiconst_3 rfl
theorem wX5_branches_72 : E_ d mX5_branches 72 ls (.int x :: .ref b :: st) h = E_ d mX5_branches 73 ls (.int x :: .ref b :: .int x :: .ref b :: st) h := e_go dX5_branches_72 rfl rfl
theorem wX5_branches_73 (ht : oT h a = 44) (hi : xix x (oN h a) = true) : E_ d mX5_branches 73 ls (.int x :: .ref a :: st) h = E_ d mX5_branches 74 ls (.long (oL h a x.toNatClampNeg) :: st) h := e_lald dX5_branches_73 rfl ht hi
theorem wX5_branches_74 : E_ d mX5_branches 74 [s0, s1, .val (.long u), s3, s4, s5, s6] st h = E_ d mX5_branches 75 [s0, s1, .val (.long u), s3, s4, s5, s6] (.long u :: st) h := e_go dX5_branches_74 rfl rfl
theorem wX5_branches_75 : E_ d mX5_branches 75 [.val (.ref a), s1, s2, s3, s4, s5, s6] st h = E_ d mX5_branches 76 [.val (.ref a), s1, s2, s3, s4, s5, s6] (.ref a :: st) h := e_go dX5_branches_75 rfl rfl
theorem wX5_branches_76 (ht : oT h a = 7) : E_ d mX5_branches 76 ls (.ref a :: st) h = E_ d mX5_branches 79 ls (va_rf (oR h a 18) :: st) h := e_getR0 dX5_branches_76 rfl rfl ht
theorem wX5_branches_79 : E_ d mX5_branches 79 ls st h = E_ d mX5_branches 81 ls (.int (nI 36) :: st) h := e_bipush dX5_branches_79 kbipush_36 rfl
theorem wX5_branches_81 (ht : oT h a = 40) (hi : xix x (oN h a) = true) : E_ d mX5_branches 81 ls (.int x :: .ref a :: st) h = E_ d mX5_branches 82 ls (.int (oI h a x.toNatClampNeg) :: st) h := e_iald dX5_branches_81 rfl ht hi
theorem wX5_branches_82 : E_ d mX5_branches 82 ls (.int x :: st) h = E_ d mX5_branches 83 ls (.long x.toInt64 :: st) h := e_go dX5_branches_82 rfl rfl
theorem wX5_branches_83 : E_ d mX5_branches 83 ls (.long v :: .long u :: st) h = E_ d mX5_branches 84 ls (.long (u * v) :: st) h := e_go dX5_branches_83 rfl rfl
theorem wX5_branches_84 : E_ d mX5_branches 84 ls (.long v :: .long u :: st) h = E_ d mX5_branches 85 ls (.long (u + v) :: st) h := e_go dX5_branches_84 rfl rfl
theorem wX5_branches_85 (ht : oT h a = 44) (hi : xix x (oN h a) = true) : E_ d mX5_branches 85 ls (.long u :: .int x :: .ref a :: st) h = E_ d mX5_branches 86 ls st (pL h a (va_up (oL h a) x.toNatClampNeg u)) := e_last dX5_branches_85 rfl ht hi
theorem wX5_branches_86 : E_ d mX5_branches 86 [.val (.ref a), s1, s2, s3, s4, s5, s6] st h = E_ d mX5_branches 87 [.val (.ref a), s1, s2, s3, s4, s5, s6] (.ref a :: st) h := e_go dX5_branches_86 rfl rfl
theorem wX5_branches_87 (ht : oT h a = 7) : E_ d mX5_branches 87 ls (.ref a :: st) h = E_ d mX5_branches 90 ls (va_rf (oR h a 27) :: st) h := e_getR0 dX5_branches_87 rfl rfl ht
theorem wX5_branches_90 : E_ d mX5_branches 90 ls st h = E_ d mX5_branches 91 ls (.int (nI 4) :: st) h := e_iconst dX5_branches_90 kiconst_4 rfl
theorem wX5_branches_91 : E_ d mX5_branches 91 ls (.int x :: .ref b :: st) h = E_ d mX5_branches 92 ls (.int x :: .ref b :: .int x :: .ref b :: st) h := e_go dX5_branches_91 rfl rfl
theorem wX5_branches_92 (ht : oT h a = 44) (hi : xix x (oN h a) = true) : E_ d mX5_branches 92 ls (.int x :: .ref a :: st) h = E_ d mX5_branches 93 ls (.long (oL h a x.toNatClampNeg) :: st) h := e_lald dX5_branches_92 rfl ht hi
theorem wX5_branches_93 : E_ d mX5_branches 93 [s0, s1, .val (.long u), s3, s4, s5, s6] st h = E_ d mX5_branches 94 [s0, s1, .val (.long u), s3, s4, s5, s6] (.long u :: st) h := e_go dX5_branches_93 rfl rfl
theorem wX5_branches_94 : E_ d mX5_branches 94 [.val (.ref a), s1, s2, s3, s4, s5, s6] st h = E_ d mX5_branches 95 [.val (.ref a), s1, s2, s3, s4, s5, s6] (.ref a :: st) h := e_go dX5_branches_94 rfl rfl
theorem wX5_branches_95 (ht : oT h a = 7) : E_ d mX5_branches 95 ls (.ref a :: st) h = E_ d mX5_branches 98 ls (va_rf (oR h a 18) :: st) h := e_getR0 dX5_branches_95 rfl rfl ht
theorem wX5_branches_98 : E_ d mX5_branches 98 ls st h = E_ d mX5_branches 100 ls (.int (nI 38) :: st) h := e_bipush dX5_branches_98 kbipush_38 rfl
theorem wX5_branches_100 (ht : oT h a = 40) (hi : xix x (oN h a) = true) : E_ d mX5_branches 100 ls (.int x :: .ref a :: st) h = E_ d mX5_branches 101 ls (.int (oI h a x.toNatClampNeg) :: st) h := e_iald dX5_branches_100 rfl ht hi
theorem wX5_branches_101 : E_ d mX5_branches 101 ls (.int x :: st) h = E_ d mX5_branches 102 ls (.long x.toInt64 :: st) h := e_go dX5_branches_101 rfl rfl
theorem wX5_branches_102 : E_ d mX5_branches 102 ls (.long v :: .long u :: st) h = E_ d mX5_branches 103 ls (.long (u * v) :: st) h := e_go dX5_branches_102 rfl rfl
theorem wX5_branches_103 : E_ d mX5_branches 103 ls (.long v :: .long u :: st) h = E_ d mX5_branches 104 ls (.long (u + v) :: st) h := e_go dX5_branches_103 rfl rfl
theorem wX5_branches_104 (ht : oT h a = 44) (hi : xix x (oN h a) = true) : E_ d mX5_branches 104 ls (.long u :: .int x :: .ref a :: st) h = E_ d mX5_branches 105 ls st (pL h a (va_up (oL h a) x.toNatClampNeg u)) := e_last dX5_branches_104 rfl ht hi
theorem wX5_branches_105 : E_ d mX5_branches 105 [.val (.ref a), s1, s2, s3, s4, s5, s6] st h = E_ d mX5_branches 106 [.val (.ref a), s1, s2, s3, s4, s5, s6] (.ref a :: st) h := e_go dX5_branches_105 rfl rfl
theorem wX5_branches_106 (ht : oT h a = 7) : E_ d mX5_branches 106 ls (.ref a :: st) h = E_ d mX5_branches 109 ls (va_rf (oR h a 18) :: st) h := e_getR0 dX5_branches_106 rfl rfl ht
theorem wX5_branches_109 : E_ d mX5_branches 109 ls st h = E_ d mX5_branches 111 ls (.int (nI 39) :: st) h := e_bipush dX5_branches_109 kbipush_39 rfl
theorem wX5_branches_111 (ht : oT h a = 40) (hi : xix x (oN h a) = true) : E_ d mX5_branches 111 ls (.int x :: .ref a :: st) h = E_ d mX5_branches 112 ls (.int (oI h a x.toNatClampNeg) :: st) h := e_iald dX5_branches_111 rfl ht hi
theorem wX5_branches_112 : E_ d mX5_branches 112 ls st h = E_ d mX5_branches 113 ls (.int ((-1)) :: st) h := e_iconst dX5_branches_112 kiconst_m1 rfl
theorem wX5_branches_113 : E_ d mX5_branches 113 ls (.int y :: .int x :: st) h = if x = y then E_ d mX5_branches 132 ls st h else E_ d mX5_branches 116 ls st h := e_ieq dX5_branches_113 rfl rfl
theorem wX5_branches_116 : E_ d mX5_branches 116 [.val (.ref a), s1, s2, s3, s4, s5, s6] st h = E_ d mX5_branches 117 [.val (.ref a), s1, s2, s3, s4, s5, s6] (.ref a :: st) h := e_go dX5_branches_116 rfl rfl
theorem wX5_branches_117 (ht : oT h a = 7) : E_ d mX5_branches 117 ls (.ref a :: st) h = E_ d mX5_branches 120 ls (va_rf (oR h a 28) :: st) h := e_getR0 dX5_branches_117 rfl rfl ht
theorem wX5_branches_120 : E_ d mX5_branches 120 [.val (.ref a), s1, s2, s3, s4, s5, s6] st h = E_ d mX5_branches 121 [.val (.ref a), s1, s2, s3, s4, s5, s6] (.ref a :: st) h := e_go dX5_branches_120 rfl rfl
theorem wX5_branches_121 (ht : oT h a = 7) : E_ d mX5_branches 121 ls (.ref a :: st) h = E_ d mX5_branches 124 ls (va_rf (oR h a 18) :: st) h := e_getR0 dX5_branches_121 rfl rfl ht
theorem wX5_branches_124 : E_ d mX5_branches 124 ls st h = E_ d mX5_branches 126 ls (.int (nI 39) :: st) h := e_bipush dX5_branches_124 kbipush_39 rfl
theorem wX5_branches_126 (ht : oT h a = 40) (hi : xix x (oN h a) = true) : E_ d mX5_branches 126 ls (.int x :: .ref a :: st) h = E_ d mX5_branches 127 ls (.int (oI h a x.toNatClampNeg) :: st) h := e_iald dX5_branches_126 rfl ht hi
theorem wX5_branches_127 : E_ d mX5_branches 127 ls (.int x :: .ref b :: st) h = E_ d mX5_branches 128 ls (.int x :: .ref b :: .int x :: .ref b :: st) h := e_go dX5_branches_127 rfl rfl
theorem wX5_branches_128 (ht : oT h a = 44) (hi : xix x (oN h a) = true) : E_ d mX5_branches 128 ls (.int x :: .ref a :: st) h = E_ d mX5_branches 129 ls (.long (oL h a x.toNatClampNeg) :: st) h := e_lald dX5_branches_128 rfl ht hi
theorem wX5_branches_129 : E_ d mX5_branches 129 [s0, s1, .val (.long u), s3, s4, s5, s6] st h = E_ d mX5_branches 130 [s0, s1, .val (.long u), s3, s4, s5, s6] (.long u :: st) h := e_go dX5_branches_129 rfl rfl
theorem wX5_branches_130 : E_ d mX5_branches 130 ls (.long v :: .long u :: st) h = E_ d mX5_branches 131 ls (.long (u + v) :: st) h := e_go dX5_branches_130 rfl rfl
theorem wX5_branches_131 (ht : oT h a = 44) (hi : xix x (oN h a) = true) : E_ d mX5_branches 131 ls (.long u :: .int x :: .ref a :: st) h = E_ d mX5_branches 132 ls st (pL h a (va_up (oL h a) x.toNatClampNeg u)) := e_last dX5_branches_131 rfl ht hi
theorem wX5_branches_132 : E_ d mX5_branches 132 ls st h = E_ d mX5_branches 133 ls (.int (nI 0) :: st) h := e_iconst dX5_branches_132 kiconst_0 rfl
theorem wX5_branches_133 : E_ d mX5_branches 133 [s0, s1, s2, s3, s4, s5, s6] (.int x :: st) h = E_ d mX5_branches 135 [s0, s1, s2, s3, xk s4, .val (.int x), s6] st h := e_go dX5_branches_133 rfl rfl
theorem wX5_branches_135 : E_ d mX5_branches 135 [s0, s1, s2, s3, s4, .val (.int x), s6] st h = E_ d mX5_branches 137 [s0, s1, s2, s3, s4, .val (.int x), s6] (.int x :: st) h := e_go dX5_branches_135 rfl rfl
theorem wX5_branches_137 : E_ d mX5_branches 137 [.val (.ref a), s1, s2, s3, s4, s5, s6] st h = E_ d mX5_branches 138 [.val (.ref a), s1, s2, s3, s4, s5, s6] (.ref a :: st) h := e_go dX5_branches_137 rfl rfl
theorem wX5_branches_138 (ht : oT h a = 7) : E_ d mX5_branches 138 ls (.ref a :: st) h = E_ d mX5_branches 141 ls (va_rf (oR h a 2) :: st) h := e_getR0 dX5_branches_138 rfl rfl ht
theorem wX5_branches_141 : E_ d mX5_branches 141 ls st h = E_ d mX5_branches 142 ls (.int (nI 1) :: st) h := e_iconst dX5_branches_141 kiconst_1 rfl
theorem wX5_branches_142 (ht : oT h a = 40) (hi : xix x (oN h a) = true) : E_ d mX5_branches 142 ls (.int x :: .ref a :: st) h = E_ d mX5_branches 143 ls (.int (oI h a x.toNatClampNeg) :: st) h := e_iald dX5_branches_142 rfl ht hi
theorem wX5_branches_143 : E_ d mX5_branches 143 ls (.int y :: .int x :: st) h = if x < y then E_ d mX5_branches 146 ls st h else E_ d mX5_branches 181 ls st h := e_ige dX5_branches_143 rfl rfl
theorem wX5_branches_146 : E_ d mX5_branches 146 [.val (.ref a), s1, s2, s3, s4, s5, s6] st h = E_ d mX5_branches 147 [.val (.ref a), s1, s2, s3, s4, s5, s6] (.ref a :: st) h := e_go dX5_branches_146 rfl rfl
theorem wX5_branches_147 (ht : oT h a = 7) : E_ d mX5_branches 147 ls (.ref a :: st) h = E_ d mX5_branches 150 ls (va_rf (oR h a 29) :: st) h := e_getR0 dX5_branches_147 rfl rfl ht
theorem wX5_branches_150 : E_ d mX5_branches 150 [s0, s1, s2, s3, s4, .val (.int x), s6] st h = E_ d mX5_branches 152 [s0, s1, s2, s3, s4, .val (.int x), s6] (.int x :: st) h := e_go dX5_branches_150 rfl rfl
theorem wX5_branches_152 : E_ d mX5_branches 152 ls (.int x :: .ref b :: st) h = E_ d mX5_branches 153 ls (.int x :: .ref b :: .int x :: .ref b :: st) h := e_go dX5_branches_152 rfl rfl
theorem wX5_branches_153 (ht : oT h a = 44) (hi : xix x (oN h a) = true) : E_ d mX5_branches 153 ls (.int x :: .ref a :: st) h = E_ d mX5_branches 154 ls (.long (oL h a x.toNatClampNeg) :: st) h := e_lald dX5_branches_153 rfl ht hi
theorem wX5_branches_154 : E_ d mX5_branches 154 [.val (.ref a), s1, s2, s3, s4, s5, s6] st h = E_ d mX5_branches 155 [.val (.ref a), s1, s2, s3, s4, s5, s6] (.ref a :: st) h := e_go dX5_branches_154 rfl rfl
theorem wX5_branches_155 (ht : oT h a = 7) : E_ d mX5_branches 155 ls (.ref a :: st) h = E_ d mX5_branches 158 ls (va_rf (oR h a 18) :: st) h := e_getR0 dX5_branches_155 rfl rfl ht
theorem wX5_branches_158 : E_ d mX5_branches 158 ls st h = E_ d mX5_branches 160 ls (.int (nI 16) :: st) h := e_bipush dX5_branches_158 kbipush_16 rfl
theorem wX5_branches_160 : E_ d mX5_branches 160 [s0, s1, s2, s3, s4, .val (.int x), s6] st h = E_ d mX5_branches 162 [s0, s1, s2, s3, s4, .val (.int x), s6] (.int x :: st) h := e_go dX5_branches_160 rfl rfl
theorem wX5_branches_162 : E_ d mX5_branches 162 ls (.int y :: .int x :: st) h = E_ d mX5_branches 163 ls (.int (x + y) :: st) h := e_go dX5_branches_162 rfl rfl
theorem wX5_branches_163 (ht : oT h a = 40) (hi : xix x (oN h a) = true) : E_ d mX5_branches 163 ls (.int x :: .ref a :: st) h = E_ d mX5_branches 164 ls (.int (oI h a x.toNatClampNeg) :: st) h := e_iald dX5_branches_163 rfl ht hi
theorem wX5_branches_164 : E_ d mX5_branches 164 ls st h = E_ d mX5_branches 165 ls (.int (nI 2) :: st) h := e_iconst dX5_branches_164 kiconst_2 rfl
theorem wX5_branches_165 : E_ d mX5_branches 165 ls (.int y :: .int x :: st) h = if x = y then E_ d mX5_branches 168 ls st h else E_ d mX5_branches 172 ls st h := e_ine dX5_branches_165 rfl rfl
theorem wX5_branches_168 : E_ d mX5_branches 168 [s0, s1, .val (.long u), s3, s4, s5, s6] st h = E_ d mX5_branches 169 [s0, s1, .val (.long u), s3, s4, s5, s6] (.long u :: st) h := e_go dX5_branches_168 rfl rfl
theorem wX5_branches_169 : E_ d mX5_branches 169 ls st h = E_ d mX5_branches 173 ls st h := e_gt dX5_branches_169 rfl
theorem wX5_branches_172 : E_ d mX5_branches 172 ls st h = E_ d mX5_branches 173 ls (.long 0 :: st) h := e_go dX5_branches_172 rfl rfl
theorem wX5_branches_173 : E_ d mX5_branches 173 ls (.long v :: .long u :: st) h = E_ d mX5_branches 174 ls (.long (u + v) :: st) h := e_go dX5_branches_173 rfl rfl
theorem wX5_branches_174 (ht : oT h a = 44) (hi : xix x (oN h a) = true) : E_ d mX5_branches 174 ls (.long u :: .int x :: .ref a :: st) h = E_ d mX5_branches 175 ls st (pL h a (va_up (oL h a) x.toNatClampNeg u)) := e_last dX5_branches_174 rfl ht hi
theorem wX5_branches_175 : E_ d mX5_branches 175 [s0, s1, s2, s3, s4, .val (.int x), s6] st h = E_ d mX5_branches 178 [s0, s1, s2, s3, xk s4, .val (.int (x + nI 1)), s6] st h := by rw [← kiinc_1]; exact e_go dX5_branches_175 rfl rfl
theorem wX5_branches_178 : E_ d mX5_branches 178 ls st h = E_ d mX5_branches 135 ls st h := e_gt dX5_branches_178 rfl
theorem wX5_branches_181 : E_ d mX5_branches 181 ls [] h = some (none, h) := e_rt dX5_branches_181 rfl rfl
theorem wX5_branches_182 : E_ d mX5_branches 182 [.val (.ref a), s1, s2, s3, s4, s5, s6] st h = E_ d mX5_branches 183 [.val (.ref a), s1, s2, s3, s4, s5, s6] (.ref a :: st) h := e_go dX5_branches_182 rfl rfl
theorem wX5_branches_183 (ht : oT h a = 7) : E_ d mX5_branches 183 ls (.ref a :: st) h = E_ d mX5_branches 186 ls (.int (oI h a 23) :: st) h := e_getI dX5_branches_183 rfl rfl ht
theorem wX5_branches_186 : E_ d mX5_branches 186 [s0, s1, s2, s3, s4, s5, s6] (.int x :: st) h = E_ d mX5_branches 188 [s0, s1, s2, s3, xk s4, .val (.int x), s6] st h := e_go dX5_branches_186 rfl rfl
theorem wX5_branches_188 : E_ d mX5_branches 188 ls st h = E_ d mX5_branches 189 ls (.int (nI 0) :: st) h := e_iconst dX5_branches_188 kiconst_0 rfl
theorem wX5_branches_189 : E_ d mX5_branches 189 [s0, s1, s2, s3, s4, s5, s6] (.int x :: st) h = E_ d mX5_branches 191 [s0, s1, s2, s3, s4, xk s5, .val (.int x)] st h := e_go dX5_branches_189 rfl rfl
theorem wX5_branches_191 : E_ d mX5_branches 191 [s0, s1, s2, s3, s4, s5, .val (.int x)] st h = E_ d mX5_branches 193 [s0, s1, s2, s3, s4, s5, .val (.int x)] (.int x :: st) h := e_go dX5_branches_191 rfl rfl
theorem wX5_branches_193 : E_ d mX5_branches 193 ls st h = E_ d mX5_branches 195 ls (.int (nI 42) :: st) h := e_bipush dX5_branches_193 kbipush_42 rfl
theorem wX5_branches_195 : E_ d mX5_branches 195 ls (.int y :: .int x :: st) h = if x < y then E_ d mX5_branches 198 ls st h else E_ d mX5_branches 223 ls st h := e_ige dX5_branches_195 rfl rfl
theorem wX5_branches_198 : E_ d mX5_branches 198 [.val (.ref a), s1, s2, s3, s4, s5, s6] st h = E_ d mX5_branches 199 [.val (.ref a), s1, s2, s3, s4, s5, s6] (.ref a :: st) h := e_go dX5_branches_198 rfl rfl
theorem wX5_branches_199 (ht : oT h a = 7) : E_ d mX5_branches 199 ls (.ref a :: st) h = E_ d mX5_branches 202 ls (va_rf (oR h a 19) :: st) h := e_getR0 dX5_branches_199 rfl rfl ht
theorem wX5_branches_202 : E_ d mX5_branches 202 ls st h = E_ d mX5_branches 204 ls (.int (nI 42) :: st) h := e_bipush dX5_branches_202 kbipush_42 rfl
theorem wX5_branches_204 : E_ d mX5_branches 204 [s0, .val (.int x), s2, s3, s4, s5, s6] st h = E_ d mX5_branches 205 [s0, .val (.int x), s2, s3, s4, s5, s6] (.int x :: st) h := e_go dX5_branches_204 rfl rfl
theorem wX5_branches_205 : E_ d mX5_branches 205 ls (.int y :: .int x :: st) h = E_ d mX5_branches 206 ls (.int (x * y) :: st) h := e_go dX5_branches_205 rfl rfl
theorem wX5_branches_206 : E_ d mX5_branches 206 [s0, s1, s2, s3, s4, s5, .val (.int x)] st h = E_ d mX5_branches 208 [s0, s1, s2, s3, s4, s5, .val (.int x)] (.int x :: st) h := e_go dX5_branches_206 rfl rfl
theorem wX5_branches_208 : E_ d mX5_branches 208 ls (.int y :: .int x :: st) h = E_ d mX5_branches 209 ls (.int (x + y) :: st) h := e_go dX5_branches_208 rfl rfl
theorem wX5_branches_209 : E_ d mX5_branches 209 [.val (.ref a), s1, s2, s3, s4, s5, s6] st h = E_ d mX5_branches 210 [.val (.ref a), s1, s2, s3, s4, s5, s6] (.ref a :: st) h := e_go dX5_branches_209 rfl rfl
theorem wX5_branches_210 (ht : oT h a = 7) : E_ d mX5_branches 210 ls (.ref a :: st) h = E_ d mX5_branches 213 ls (va_rf (oR h a 18) :: st) h := e_getR0 dX5_branches_210 rfl rfl ht
theorem wX5_branches_213 : E_ d mX5_branches 213 [s0, s1, s2, s3, s4, s5, .val (.int x)] st h = E_ d mX5_branches 215 [s0, s1, s2, s3, s4, s5, .val (.int x)] (.int x :: st) h := e_go dX5_branches_213 rfl rfl
theorem wX5_branches_215 (ht : oT h a = 40) (hi : xix x (oN h a) = true) : E_ d mX5_branches 215 ls (.int x :: .ref a :: st) h = E_ d mX5_branches 216 ls (.int (oI h a x.toNatClampNeg) :: st) h := e_iald dX5_branches_215 rfl ht hi
theorem wX5_branches_216 (ht : oT h a = 40) (hi : xix x (oN h a) = true) : E_ d mX5_branches 216 ls (.int y :: .int x :: .ref a :: st) h = E_ d mX5_branches 217 ls st (pI h a (va_up (oI h a) x.toNatClampNeg y)) := e_iast dX5_branches_216 rfl ht hi
theorem wX5_branches_217 : E_ d mX5_branches 217 [s0, s1, s2, s3, s4, s5, .val (.int x)] st h = E_ d mX5_branches 220 [s0, s1, s2, s3, s4, xk s5, .val (.int (x + nI 1))] st h := by rw [← kiinc_1]; exact e_go dX5_branches_217 rfl rfl
theorem wX5_branches_220 : E_ d mX5_branches 220 ls st h = E_ d mX5_branches 191 ls st h := e_gt dX5_branches_220 rfl
theorem wX5_branches_223 : E_ d mX5_branches 223 [.val (.ref a), s1, s2, s3, s4, s5, s6] st h = E_ d mX5_branches 224 [.val (.ref a), s1, s2, s3, s4, s5, s6] (.ref a :: st) h := e_go dX5_branches_223 rfl rfl
theorem wX5_branches_224 (ht : oT h a = 7) : E_ d mX5_branches 224 ls (.ref a :: st) h = E_ d mX5_branches 227 ls (va_rf (oR h a 18) :: st) h := e_getR0 dX5_branches_224 rfl rfl ht
theorem wX5_branches_227 : E_ d mX5_branches 227 ls st h = E_ d mX5_branches 229 ls (.int (nI 16) :: st) h := e_bipush dX5_branches_227 kbipush_16 rfl
theorem wX5_branches_229 : E_ d mX5_branches 229 [s0, s1, s2, s3, .val (.int x), s5, s6] st h = E_ d mX5_branches 231 [s0, s1, s2, s3, .val (.int x), s5, s6] (.int x :: st) h := e_go dX5_branches_229 rfl rfl
theorem wX5_branches_231 : E_ d mX5_branches 231 ls (.int y :: .int x :: st) h = E_ d mX5_branches 232 ls (.int (x + y) :: st) h := e_go dX5_branches_231 rfl rfl
theorem wX5_branches_232 : E_ d mX5_branches 232 ls st h = E_ d mX5_branches 233 ls (.int (nI 2) :: st) h := e_iconst dX5_branches_232 kiconst_2 rfl
theorem wX5_branches_233 (ht : oT h a = 40) (hi : xix x (oN h a) = true) : E_ d mX5_branches 233 ls (.int y :: .int x :: .ref a :: st) h = E_ d mX5_branches 234 ls st (pI h a (va_up (oI h a) x.toNatClampNeg y)) := e_iast dX5_branches_233 rfl ht hi
theorem wX5_branches_234 : E_ d mX5_branches 234 [.val (.ref a), s1, s2, s3, s4, s5, s6] st h = E_ d mX5_branches 235 [.val (.ref a), s1, s2, s3, s4, s5, s6] (.ref a :: st) h := e_go dX5_branches_234 rfl rfl
theorem wX5_branches_235 : E_ d mX5_branches 235 [s0, .val (.int x), s2, s3, s4, s5, s6] st h = E_ d mX5_branches 236 [s0, .val (.int x), s2, s3, s4, s5, s6] (.int x :: st) h := e_go dX5_branches_235 rfl rfl
theorem wX5_branches_236 : E_ d mX5_branches 236 ls st h = E_ d mX5_branches 237 ls (.int (nI 1) :: st) h := e_iconst dX5_branches_236 kiconst_1 rfl
theorem wX5_branches_237 : E_ d mX5_branches 237 ls (.int y :: .int x :: st) h = E_ d mX5_branches 238 ls (.int (x + y) :: st) h := e_go dX5_branches_237 rfl rfl
theorem wX5_branches_238 : E_ d mX5_branches 238 [s0, s1, .val (.long u), s3, s4, s5, s6] st h = E_ d mX5_branches 239 [s0, s1, .val (.long u), s3, s4, s5, s6] (.long u :: st) h := e_go dX5_branches_238 rfl rfl
theorem wX5_branches_239 : E_ d mX5_branches 239 ls st h = E_ d mX5_branches 242 ls (.long (100) :: st) h := e_go dX5_branches_239 rfl rfl
theorem wX5_branches_242 (hy : ¬ v = 0) : E_ d mX5_branches 242 ls (.long v :: .long u :: st) h = E_ d mX5_branches 243 ls (.long (u / v) :: st) h := e_ldiv dX5_branches_242 rfl hy
theorem wX5_branches_243 : E_ d mX5_branches 243 [s0, s1, s2, s3, s4, .val (.int x), s6] st h = E_ d mX5_branches 245 [s0, s1, s2, s3, s4, .val (.int x), s6] (.int x :: st) h := e_go dX5_branches_243 rfl rfl
theorem wX5_branches_245 : E_ d mX5_branches 245 ls (.int x :: st) h = E_ d mX5_branches 246 ls (.long x.toInt64 :: st) h := e_go dX5_branches_245 rfl rfl
theorem wX5_branches_246 : E_ d mX5_branches 246 ls (.long v :: .long u :: st) h = E_ d mX5_branches 247 ls (.long (u * v) :: st) h := e_go dX5_branches_246 rfl rfl
theorem wX5_branches_247 (ht : oT h a = 7) : E_ (d + 1) mX5_branches 247 ls [.long u1, .int x1, .ref a] h = (C_ d mX5_branches [.ref a, .int x1, .long u1] h).bind fun r => E_ (d + 1) mX5_branches 250 ls (xpu r.1 []) r.2 := e_vir dX5_branches_247 rfl rfl rfl rfl rfl rfl (Nat.le_of_ble_eq_true rfl) (Nat.le_of_ble_eq_true rfl) ht
theorem wX5_branches_250 : E_ d mX5_branches 250 ls st h = E_ d mX5_branches 251 ls (.int (nI 0) :: st) h := e_iconst dX5_branches_250 kiconst_0 rfl
theorem wX5_branches_251 : E_ d mX5_branches 251 [s0, s1, s2, s3, s4, s5, s6] (.int x :: st) h = E_ d mX5_branches 253 [s0, s1, s2, s3, s4, xk s5, .val (.int x)] st h := e_go dX5_branches_251 rfl rfl
theorem wX5_branches_253 : E_ d mX5_branches 253 [s0, s1, s2, s3, s4, s5, .val (.int x)] st h = E_ d mX5_branches 255 [s0, s1, s2, s3, s4, s5, .val (.int x)] (.int x :: st) h := e_go dX5_branches_253 rfl rfl
theorem wX5_branches_255 : E_ d mX5_branches 255 ls st h = E_ d mX5_branches 257 ls (.int (nI 42) :: st) h := e_bipush dX5_branches_255 kbipush_42 rfl
theorem wX5_branches_257 : E_ d mX5_branches 257 ls (.int y :: .int x :: st) h = if x < y then E_ d mX5_branches 260 ls st h else E_ d mX5_branches 285 ls st h := e_ige dX5_branches_257 rfl rfl
theorem wX5_branches_260 : E_ d mX5_branches 260 [.val (.ref a), s1, s2, s3, s4, s5, s6] st h = E_ d mX5_branches 261 [.val (.ref a), s1, s2, s3, s4, s5, s6] (.ref a :: st) h := e_go dX5_branches_260 rfl rfl
theorem wX5_branches_261 (ht : oT h a = 7) : E_ d mX5_branches 261 ls (.ref a :: st) h = E_ d mX5_branches 264 ls (va_rf (oR h a 18) :: st) h := e_getR0 dX5_branches_261 rfl rfl ht
theorem wX5_branches_264 : E_ d mX5_branches 264 [s0, s1, s2, s3, s4, s5, .val (.int x)] st h = E_ d mX5_branches 266 [s0, s1, s2, s3, s4, s5, .val (.int x)] (.int x :: st) h := e_go dX5_branches_264 rfl rfl
theorem wX5_branches_266 : E_ d mX5_branches 266 [.val (.ref a), s1, s2, s3, s4, s5, s6] st h = E_ d mX5_branches 267 [.val (.ref a), s1, s2, s3, s4, s5, s6] (.ref a :: st) h := e_go dX5_branches_266 rfl rfl
theorem wX5_branches_267 (ht : oT h a = 7) : E_ d mX5_branches 267 ls (.ref a :: st) h = E_ d mX5_branches 270 ls (va_rf (oR h a 19) :: st) h := e_getR0 dX5_branches_267 rfl rfl ht
theorem wX5_branches_270 : E_ d mX5_branches 270 ls st h = E_ d mX5_branches 272 ls (.int (nI 42) :: st) h := e_bipush dX5_branches_270 kbipush_42 rfl
theorem wX5_branches_272 : E_ d mX5_branches 272 [s0, .val (.int x), s2, s3, s4, s5, s6] st h = E_ d mX5_branches 273 [s0, .val (.int x), s2, s3, s4, s5, s6] (.int x :: st) h := e_go dX5_branches_272 rfl rfl
theorem wX5_branches_273 : E_ d mX5_branches 273 ls (.int y :: .int x :: st) h = E_ d mX5_branches 274 ls (.int (x * y) :: st) h := e_go dX5_branches_273 rfl rfl
theorem wX5_branches_274 : E_ d mX5_branches 274 [s0, s1, s2, s3, s4, s5, .val (.int x)] st h = E_ d mX5_branches 276 [s0, s1, s2, s3, s4, s5, .val (.int x)] (.int x :: st) h := e_go dX5_branches_274 rfl rfl
theorem wX5_branches_276 : E_ d mX5_branches 276 ls (.int y :: .int x :: st) h = E_ d mX5_branches 277 ls (.int (x + y) :: st) h := e_go dX5_branches_276 rfl rfl
theorem wX5_branches_277 (ht : oT h a = 40) (hi : xix x (oN h a) = true) : E_ d mX5_branches 277 ls (.int x :: .ref a :: st) h = E_ d mX5_branches 278 ls (.int (oI h a x.toNatClampNeg) :: st) h := e_iald dX5_branches_277 rfl ht hi
theorem wX5_branches_278 (ht : oT h a = 40) (hi : xix x (oN h a) = true) : E_ d mX5_branches 278 ls (.int y :: .int x :: .ref a :: st) h = E_ d mX5_branches 279 ls st (pI h a (va_up (oI h a) x.toNatClampNeg y)) := e_iast dX5_branches_278 rfl ht hi
theorem wX5_branches_279 : E_ d mX5_branches 279 [s0, s1, s2, s3, s4, s5, .val (.int x)] st h = E_ d mX5_branches 282 [s0, s1, s2, s3, s4, xk s5, .val (.int (x + nI 1))] st h := by rw [← kiinc_1]; exact e_go dX5_branches_279 rfl rfl
theorem wX5_branches_282 : E_ d mX5_branches 282 ls st h = E_ d mX5_branches 253 ls st h := e_gt dX5_branches_282 rfl
theorem wX5_branches_285 : E_ d mX5_branches 285 [.val (.ref a), s1, s2, s3, s4, s5, s6] st h = E_ d mX5_branches 286 [.val (.ref a), s1, s2, s3, s4, s5, s6] (.ref a :: st) h := e_go dX5_branches_285 rfl rfl
theorem wX5_branches_286 (ht : oT h a = 7) : E_ d mX5_branches 286 ls (.ref a :: st) h = E_ d mX5_branches 289 ls (va_rf (oR h a 18) :: st) h := e_getR0 dX5_branches_286 rfl rfl ht
theorem wX5_branches_289 : E_ d mX5_branches 289 ls st h = E_ d mX5_branches 291 ls (.int (nI 16) :: st) h := e_bipush dX5_branches_289 kbipush_16 rfl
theorem wX5_branches_291 : E_ d mX5_branches 291 [s0, s1, s2, s3, .val (.int x), s5, s6] st h = E_ d mX5_branches 293 [s0, s1, s2, s3, .val (.int x), s5, s6] (.int x :: st) h := e_go dX5_branches_291 rfl rfl
theorem wX5_branches_293 : E_ d mX5_branches 293 ls (.int y :: .int x :: st) h = E_ d mX5_branches 294 ls (.int (x + y) :: st) h := e_go dX5_branches_293 rfl rfl
theorem wX5_branches_294 : E_ d mX5_branches 294 ls st h = E_ d mX5_branches 295 ls (.int (nI 1) :: st) h := e_iconst dX5_branches_294 kiconst_1 rfl
theorem wX5_branches_295 (ht : oT h a = 40) (hi : xix x (oN h a) = true) : E_ d mX5_branches 295 ls (.int y :: .int x :: .ref a :: st) h = E_ d mX5_branches 296 ls st (pI h a (va_up (oI h a) x.toNatClampNeg y)) := e_iast dX5_branches_295 rfl ht hi
theorem wX5_branches_296 : E_ d mX5_branches 296 [.val (.ref a), s1, s2, s3, s4, s5, s6] st h = E_ d mX5_branches 297 [.val (.ref a), s1, s2, s3, s4, s5, s6] (.ref a :: st) h := e_go dX5_branches_296 rfl rfl
theorem wX5_branches_297 : E_ d mX5_branches 297 [s0, .val (.int x), s2, s3, s4, s5, s6] st h = E_ d mX5_branches 298 [s0, .val (.int x), s2, s3, s4, s5, s6] (.int x :: st) h := e_go dX5_branches_297 rfl rfl
theorem wX5_branches_298 : E_ d mX5_branches 298 ls st h = E_ d mX5_branches 299 ls (.int (nI 1) :: st) h := e_iconst dX5_branches_298 kiconst_1 rfl
theorem wX5_branches_299 : E_ d mX5_branches 299 ls (.int y :: .int x :: st) h = E_ d mX5_branches 300 ls (.int (x + y) :: st) h := e_go dX5_branches_299 rfl rfl
theorem wX5_branches_300 : E_ d mX5_branches 300 [s0, s1, .val (.long u), s3, s4, s5, s6] st h = E_ d mX5_branches 301 [s0, s1, .val (.long u), s3, s4, s5, s6] (.long u :: st) h := e_go dX5_branches_300 rfl rfl
theorem wX5_branches_301 : E_ d mX5_branches 301 ls st h = E_ d mX5_branches 304 ls (.long (100) :: st) h := e_go dX5_branches_301 rfl rfl
theorem wX5_branches_304 (hy : ¬ v = 0) : E_ d mX5_branches 304 ls (.long v :: .long u :: st) h = E_ d mX5_branches 305 ls (.long (u / v) :: st) h := e_ldiv dX5_branches_304 rfl hy
theorem wX5_branches_305 : E_ d mX5_branches 305 ls st h = E_ d mX5_branches 307 ls (.int (nI 100) :: st) h := e_bipush dX5_branches_305 kbipush_100 rfl
theorem wX5_branches_307 : E_ d mX5_branches 307 [s0, s1, s2, s3, s4, .val (.int x), s6] st h = E_ d mX5_branches 309 [s0, s1, s2, s3, s4, .val (.int x), s6] (.int x :: st) h := e_go dX5_branches_307 rfl rfl
theorem wX5_branches_309 : E_ d mX5_branches 309 ls (.int y :: .int x :: st) h = E_ d mX5_branches 310 ls (.int (x - y) :: st) h := e_go dX5_branches_309 rfl rfl
theorem wX5_branches_310 : E_ d mX5_branches 310 ls (.int x :: st) h = E_ d mX5_branches 311 ls (.long x.toInt64 :: st) h := e_go dX5_branches_310 rfl rfl
theorem wX5_branches_311 : E_ d mX5_branches 311 ls (.long v :: .long u :: st) h = E_ d mX5_branches 312 ls (.long (u * v) :: st) h := e_go dX5_branches_311 rfl rfl
theorem wX5_branches_312 (ht : oT h a = 7) : E_ (d + 1) mX5_branches 312 ls [.long u1, .int x1, .ref a] h = (C_ d mX5_branches [.ref a, .int x1, .long u1] h).bind fun r => E_ (d + 1) mX5_branches 315 ls (xpu r.1 []) r.2 := e_vir dX5_branches_312 rfl rfl rfl rfl rfl rfl (Nat.le_of_ble_eq_true rfl) (Nat.le_of_ble_eq_true rfl) ht
theorem wX5_branches_315 : E_ d mX5_branches 315 ls [] h = some (none, h) := e_rt dX5_branches_315 rfl rfl
