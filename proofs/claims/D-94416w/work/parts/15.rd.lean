variable {d a b e f : Nat} {ls : List Slot} {st : List Value} {h : xH} {x y z x1 x2 x3 x4 x5 x6 x7 x8 : Int32} {u v u1 u2 u3 u4 u5 u6 : Int64} {r1 r2 r3 r4 r5 r6 : Nat} {s0 s1 s2 s3 s4 s5 s6 s7 s8 s9 s10 s11 s12 s13 : Slot} {q : Option Nat}
/-! FootOutLaw.law -/
theorem wL_law_0 : E_ d mL_law 0 ls st h = E_ d mL_law 3 ls (.ref (oX h) :: st) (pO h 1 18) := e_go dL_law_0 rfl rfl
theorem wL_law_3 : E_ d mL_law 3 ls (.ref a :: st) h = E_ d mL_law 4 ls (.ref a :: .ref a :: st) h := e_go dL_law_3 rfl rfl
theorem wL_law_4 : E_ (d + 1) mL_law 4 ls [.ref a, .ref r1] h = (C_ d mX0_init [.ref a] h).bind fun r => E_ (d + 1) mL_law 7 ls (xpu r.1 [.ref r1]) r.2 := e_call dL_law_4 rfl rfl
theorem wL_law_7 : E_ d mL_law 7 [s0, s1, s2, s3] (.ref a :: st) h = E_ d mL_law 8 [xk s0, .val (.ref a), s2, s3] st h := e_go dL_law_7 rfl rfl
theorem wL_law_8 : E_ d mL_law 8 ls st h = E_ d mL_law 11 ls (.ref (oX h) :: st) (pO h 7 36) := e_go dL_law_8 rfl rfl
theorem wL_law_11 : E_ d mL_law 11 ls (.ref a :: st) h = E_ d mL_law 12 ls (.ref a :: .ref a :: st) h := e_go dL_law_11 rfl rfl
theorem wL_law_12 : E_ (d + 1) mL_law 12 ls [.ref a, .ref r1] h = (C_ d mX5_init [.ref a] h).bind fun r => E_ (d + 1) mL_law 15 ls (xpu r.1 [.ref r1]) r.2 := e_call dL_law_12 rfl rfl
theorem wL_law_15 : E_ d mL_law 15 [s0, s1, s2, s3] (.ref a :: st) h = E_ d mL_law 16 [s0, xk s1, .val (.ref a), s3] st h := e_go dL_law_15 rfl rfl
theorem wL_law_16 : E_ d mL_law 16 ls st h = E_ d mL_law 17 ls (.int (nI 0) :: st) h := e_iconst dL_law_16 kiconst_0 rfl
theorem wL_law_17 : E_ d mL_law 17 [s0, s1, s2, s3] (.int x :: st) h = E_ d mL_law 18 [s0, s1, xk s2, .val (.int x)] st h := e_go dL_law_17 rfl rfl
theorem wL_law_18 : E_ d mL_law 18 [s0, s1, s2, .val (.int x)] st h = E_ d mL_law 19 [s0, s1, s2, .val (.int x)] (.int x :: st) h := e_go dL_law_18 rfl rfl
theorem wL_law_19 : E_ d mL_law 19 [.val (.ref a), s1, s2, s3] st h = E_ d mL_law 20 [.val (.ref a), s1, s2, s3] (.ref a :: st) h := e_go dL_law_19 rfl rfl
theorem wL_law_20 (ht : 39 ≤ oT h a ∧ oT h a ≤ 48) : E_ d mL_law 20 ls (.ref a :: st) h = E_ d mL_law 21 ls (.int (nI (oN h a)) :: st) h := e_len dL_law_20 rfl ht
theorem wL_law_21 : E_ d mL_law 21 ls st h = E_ d mL_law 23 ls (.int (nI 6) :: st) h := e_bipush dL_law_21 kbipush_6 rfl
theorem wL_law_23 : E_ d mL_law 23 ls (.int y :: .int x :: st) h = E_ d mL_law 24 ls (.int (x - y) :: st) h := e_go dL_law_23 rfl rfl
theorem wL_law_24 : E_ d mL_law 24 ls (.int y :: .int x :: st) h = if y < x then E_ d mL_law 1995 ls st h else E_ d mL_law 27 ls st h := e_igt dL_law_24 rfl rfl
theorem wL_law_27 : E_ d mL_law 27 [.val (.ref a), s1, s2, s3] st h = E_ d mL_law 28 [.val (.ref a), s1, s2, s3] (.ref a :: st) h := e_go dL_law_27 rfl rfl
theorem wL_law_28 : E_ d mL_law 28 [s0, s1, s2, .val (.int x)] st h = E_ d mL_law 29 [s0, s1, s2, .val (.int x)] (.int x :: st) h := e_go dL_law_28 rfl rfl
theorem wL_law_29 (ht : oT h a = 39) (hi : xix x (oN h a) = true) : E_ d mL_law 29 ls (.int x :: .ref a :: st) h = E_ d mL_law 30 ls (.int (oI h a x.toNatClampNeg) :: st) h := e_iald9 dL_law_29 rfl ht hi
theorem wL_law_30 : E_ d mL_law 30 ls st h = E_ d mL_law 32 ls (.int (nI 63) :: st) h := e_bipush dL_law_30 kbipush_63 rfl
theorem wL_law_32 : E_ d mL_law 32 ls (.int y :: .int x :: st) h = E_ d mL_law 33 ls (.int (x &&& y) :: st) h := e_go dL_law_32 rfl rfl
theorem wL_law_33d (hx : x.toInt < 0 ∨ 47 < x.toInt) : E_ d mL_law 33 ls (.int x :: st) h = E_ d mL_law 1989 ls st h := e_swO dL_law_33 rfl hx
theorem wL_law_33c0 : E_ d mL_law 33 ls (.int (nI 0) :: st) h = E_ d mL_law 240 ls st h := e_swI (n := 0) dL_law_33 (by decide) (by decide) rfl rfl
theorem wL_law_33c1 : E_ d mL_law 33 ls (.int (nI 1) :: st) h = E_ d mL_law 303 ls st h := e_swI (n := 1) dL_law_33 (by decide) (by decide) rfl rfl
theorem wL_law_33c2 : E_ d mL_law 33 ls (.int (nI 2) :: st) h = E_ d mL_law 336 ls st h := e_swI (n := 2) dL_law_33 (by decide) (by decide) rfl rfl
theorem wL_law_33c3 : E_ d mL_law 33 ls (.int (nI 3) :: st) h = E_ d mL_law 359 ls st h := e_swI (n := 3) dL_law_33 (by decide) (by decide) rfl rfl
theorem wL_law_33c4 : E_ d mL_law 33 ls (.int (nI 4) :: st) h = E_ d mL_law 392 ls st h := e_swI (n := 4) dL_law_33 (by decide) (by decide) rfl rfl
theorem wL_law_33c5 : E_ d mL_law 33 ls (.int (nI 5) :: st) h = E_ d mL_law 441 ls st h := e_swI (n := 5) dL_law_33 (by decide) (by decide) rfl rfl
theorem wL_law_33c6 : E_ d mL_law 33 ls (.int (nI 6) :: st) h = E_ d mL_law 474 ls st h := e_swI (n := 6) dL_law_33 (by decide) (by decide) rfl rfl
theorem wL_law_33c7 : E_ d mL_law 33 ls (.int (nI 7) :: st) h = E_ d mL_law 497 ls st h := e_swI (n := 7) dL_law_33 (by decide) (by decide) rfl rfl
theorem wL_law_33c8 : E_ d mL_law 33 ls (.int (nI 8) :: st) h = E_ d mL_law 520 ls st h := e_swI (n := 8) dL_law_33 (by decide) (by decide) rfl rfl
theorem wL_law_33c9 : E_ d mL_law 33 ls (.int (nI 9) :: st) h = E_ d mL_law 553 ls st h := e_swI (n := 9) dL_law_33 (by decide) (by decide) rfl rfl
theorem wL_law_33c10 : E_ d mL_law 33 ls (.int (nI 10) :: st) h = E_ d mL_law 606 ls st h := e_swI (n := 10) dL_law_33 (by decide) (by decide) rfl rfl
theorem wL_law_33c11 : E_ d mL_law 33 ls (.int (nI 11) :: st) h = E_ d mL_law 639 ls st h := e_swI (n := 11) dL_law_33 (by decide) (by decide) rfl rfl
theorem wL_law_33c12 : E_ d mL_law 33 ls (.int (nI 12) :: st) h = E_ d mL_law 682 ls st h := e_swI (n := 12) dL_law_33 (by decide) (by decide) rfl rfl
theorem wL_law_33c13 : E_ d mL_law 33 ls (.int (nI 13) :: st) h = E_ d mL_law 706 ls st h := e_swI (n := 13) dL_law_33 (by decide) (by decide) rfl rfl
theorem wL_law_33c14 : E_ d mL_law 33 ls (.int (nI 14) :: st) h = E_ d mL_law 730 ls st h := e_swI (n := 14) dL_law_33 (by decide) (by decide) rfl rfl
theorem wL_law_33c15 : E_ d mL_law 33 ls (.int (nI 15) :: st) h = E_ d mL_law 753 ls st h := e_swI (n := 15) dL_law_33 (by decide) (by decide) rfl rfl
theorem wL_law_33c16 : E_ d mL_law 33 ls (.int (nI 16) :: st) h = E_ d mL_law 776 ls st h := e_swI (n := 16) dL_law_33 (by decide) (by decide) rfl rfl
theorem wL_law_33c17 : E_ d mL_law 33 ls (.int (nI 17) :: st) h = E_ d mL_law 799 ls st h := e_swI (n := 17) dL_law_33 (by decide) (by decide) rfl rfl
theorem wL_law_33c18 : E_ d mL_law 33 ls (.int (nI 18) :: st) h = E_ d mL_law 833 ls st h := e_swI (n := 18) dL_law_33 (by decide) (by decide) rfl rfl
theorem wL_law_33c19 : E_ d mL_law 33 ls (.int (nI 19) :: st) h = E_ d mL_law 857 ls st h := e_swI (n := 19) dL_law_33 (by decide) (by decide) rfl rfl
theorem wL_law_33c20 : E_ d mL_law 33 ls (.int (nI 20) :: st) h = E_ d mL_law 881 ls st h := e_swI (n := 20) dL_law_33 (by decide) (by decide) rfl rfl
theorem wL_law_33c21 : E_ d mL_law 33 ls (.int (nI 21) :: st) h = E_ d mL_law 905 ls st h := e_swI (n := 21) dL_law_33 (by decide) (by decide) rfl rfl
theorem wL_law_33c22 : E_ d mL_law 33 ls (.int (nI 22) :: st) h = E_ d mL_law 928 ls st h := e_swI (n := 22) dL_law_33 (by decide) (by decide) rfl rfl
theorem wL_law_33c23 : E_ d mL_law 33 ls (.int (nI 23) :: st) h = E_ d mL_law 1007 ls st h := e_swI (n := 23) dL_law_33 (by decide) (by decide) rfl rfl
theorem wL_law_33c24 : E_ d mL_law 33 ls (.int (nI 24) :: st) h = E_ d mL_law 1040 ls st h := e_swI (n := 24) dL_law_33 (by decide) (by decide) rfl rfl
theorem wL_law_33c25 : E_ d mL_law 33 ls (.int (nI 25) :: st) h = E_ d mL_law 1073 ls st h := e_swI (n := 25) dL_law_33 (by decide) (by decide) rfl rfl
theorem wL_law_33c26 : E_ d mL_law 33 ls (.int (nI 26) :: st) h = E_ d mL_law 1122 ls st h := e_swI (n := 26) dL_law_33 (by decide) (by decide) rfl rfl
theorem wL_law_33c27 : E_ d mL_law 33 ls (.int (nI 27) :: st) h = E_ d mL_law 1135 ls st h := e_swI (n := 27) dL_law_33 (by decide) (by decide) rfl rfl
theorem wL_law_33c28 : E_ d mL_law 33 ls (.int (nI 28) :: st) h = E_ d mL_law 1168 ls st h := e_swI (n := 28) dL_law_33 (by decide) (by decide) rfl rfl
theorem wL_law_33c29 : E_ d mL_law 33 ls (.int (nI 29) :: st) h = E_ d mL_law 1191 ls st h := e_swI (n := 29) dL_law_33 (by decide) (by decide) rfl rfl
theorem wL_law_33c30 : E_ d mL_law 33 ls (.int (nI 30) :: st) h = E_ d mL_law 1234 ls st h := e_swI (n := 30) dL_law_33 (by decide) (by decide) rfl rfl
theorem wL_law_33c31 : E_ d mL_law 33 ls (.int (nI 31) :: st) h = E_ d mL_law 1267 ls st h := e_swI (n := 31) dL_law_33 (by decide) (by decide) rfl rfl
theorem wL_law_33c32 : E_ d mL_law 33 ls (.int (nI 32) :: st) h = E_ d mL_law 1320 ls st h := e_swI (n := 32) dL_law_33 (by decide) (by decide) rfl rfl
theorem wL_law_33c33 : E_ d mL_law 33 ls (.int (nI 33) :: st) h = E_ d mL_law 1373 ls st h := e_swI (n := 33) dL_law_33 (by decide) (by decide) rfl rfl
theorem wL_law_33c34 : E_ d mL_law 33 ls (.int (nI 34) :: st) h = E_ d mL_law 1406 ls st h := e_swI (n := 34) dL_law_33 (by decide) (by decide) rfl rfl
theorem wL_law_33c35 : E_ d mL_law 33 ls (.int (nI 35) :: st) h = E_ d mL_law 1459 ls st h := e_swI (n := 35) dL_law_33 (by decide) (by decide) rfl rfl
theorem wL_law_33c36 : E_ d mL_law 33 ls (.int (nI 36) :: st) h = E_ d mL_law 1512 ls st h := e_swI (n := 36) dL_law_33 (by decide) (by decide) rfl rfl
theorem wL_law_33c37 : E_ d mL_law 33 ls (.int (nI 37) :: st) h = E_ d mL_law 1555 ls st h := e_swI (n := 37) dL_law_33 (by decide) (by decide) rfl rfl
theorem wL_law_33c38 : E_ d mL_law 33 ls (.int (nI 38) :: st) h = E_ d mL_law 1608 ls st h := e_swI (n := 38) dL_law_33 (by decide) (by decide) rfl rfl
theorem wL_law_33c39 : E_ d mL_law 33 ls (.int (nI 39) :: st) h = E_ d mL_law 1651 ls st h := e_swI (n := 39) dL_law_33 (by decide) (by decide) rfl rfl
theorem wL_law_33c40 : E_ d mL_law 33 ls (.int (nI 40) :: st) h = E_ d mL_law 1714 ls st h := e_swI (n := 40) dL_law_33 (by decide) (by decide) rfl rfl
theorem wL_law_33c41 : E_ d mL_law 33 ls (.int (nI 41) :: st) h = E_ d mL_law 1747 ls st h := e_swI (n := 41) dL_law_33 (by decide) (by decide) rfl rfl
theorem wL_law_33c42 : E_ d mL_law 33 ls (.int (nI 42) :: st) h = E_ d mL_law 1780 ls st h := e_swI (n := 42) dL_law_33 (by decide) (by decide) rfl rfl
theorem wL_law_33c43 : E_ d mL_law 33 ls (.int (nI 43) :: st) h = E_ d mL_law 1823 ls st h := e_swI (n := 43) dL_law_33 (by decide) (by decide) rfl rfl
theorem wL_law_33c44 : E_ d mL_law 33 ls (.int (nI 44) :: st) h = E_ d mL_law 1897 ls st h := e_swI (n := 44) dL_law_33 (by decide) (by decide) rfl rfl
theorem wL_law_33c45 : E_ d mL_law 33 ls (.int (nI 45) :: st) h = E_ d mL_law 1920 ls st h := e_swI (n := 45) dL_law_33 (by decide) (by decide) rfl rfl
theorem wL_law_33c46 : E_ d mL_law 33 ls (.int (nI 46) :: st) h = E_ d mL_law 1943 ls st h := e_swI (n := 46) dL_law_33 (by decide) (by decide) rfl rfl
theorem wL_law_33c47 : E_ d mL_law 33 ls (.int (nI 47) :: st) h = E_ d mL_law 1966 ls st h := e_swI (n := 47) dL_law_33 (by decide) (by decide) rfl rfl
theorem wL_law_240 : E_ d mL_law 240 [s0, .val (.ref a), s2, s3] st h = E_ d mL_law 241 [s0, .val (.ref a), s2, s3] (.ref a :: st) h := e_go dL_law_240 rfl rfl
theorem wL_law_241 : E_ d mL_law 241 [.val (.ref a), s1, s2, s3] st h = E_ d mL_law 242 [.val (.ref a), s1, s2, s3] (.ref a :: st) h := e_go dL_law_241 rfl rfl
theorem wL_law_242 : E_ d mL_law 242 [s0, s1, s2, .val (.int x)] st h = E_ d mL_law 243 [s0, s1, s2, .val (.int x)] (.int x :: st) h := e_go dL_law_242 rfl rfl
theorem wL_law_243 : E_ d mL_law 243 ls st h = E_ d mL_law 244 ls (.int (nI 1) :: st) h := e_iconst dL_law_243 kiconst_1 rfl
theorem wL_law_244 : E_ d mL_law 244 ls (.int y :: .int x :: st) h = E_ d mL_law 245 ls (.int (x + y) :: st) h := e_go dL_law_244 rfl rfl
theorem wL_law_245 (ht : oT h a = 39) (hi : xix x (oN h a) = true) : E_ d mL_law 245 ls (.int x :: .ref a :: st) h = E_ d mL_law 246 ls (.int (oI h a x.toNatClampNeg) :: st) h := e_iald9 dL_law_245 rfl ht hi
theorem wL_law_246 : E_ d mL_law 246 [.val (.ref a), s1, s2, s3] st h = E_ d mL_law 247 [.val (.ref a), s1, s2, s3] (.ref a :: st) h := e_go dL_law_246 rfl rfl
theorem wL_law_247 : E_ d mL_law 247 [s0, s1, s2, .val (.int x)] st h = E_ d mL_law 248 [s0, s1, s2, .val (.int x)] (.int x :: st) h := e_go dL_law_247 rfl rfl
theorem wL_law_248 : E_ d mL_law 248 ls st h = E_ d mL_law 249 ls (.int (nI 2) :: st) h := e_iconst dL_law_248 kiconst_2 rfl
theorem wL_law_249 : E_ d mL_law 249 ls (.int y :: .int x :: st) h = E_ d mL_law 250 ls (.int (x + y) :: st) h := e_go dL_law_249 rfl rfl
theorem wL_law_250 (ht : oT h a = 39) (hi : xix x (oN h a) = true) : E_ d mL_law 250 ls (.int x :: .ref a :: st) h = E_ d mL_law 251 ls (.int (oI h a x.toNatClampNeg) :: st) h := e_iald9 dL_law_250 rfl ht hi
theorem wL_law_251 : E_ d mL_law 251 [.val (.ref a), s1, s2, s3] st h = E_ d mL_law 252 [.val (.ref a), s1, s2, s3] (.ref a :: st) h := e_go dL_law_251 rfl rfl
theorem wL_law_252 : E_ d mL_law 252 [s0, s1, s2, .val (.int x)] st h = E_ d mL_law 253 [s0, s1, s2, .val (.int x)] (.int x :: st) h := e_go dL_law_252 rfl rfl
theorem wL_law_253 : E_ d mL_law 253 ls st h = E_ d mL_law 254 ls (.int (nI 3) :: st) h := e_iconst dL_law_253 kiconst_3 rfl
theorem wL_law_254 : E_ d mL_law 254 ls (.int y :: .int x :: st) h = E_ d mL_law 255 ls (.int (x + y) :: st) h := e_go dL_law_254 rfl rfl
theorem wL_law_255 (ht : oT h a = 39) (hi : xix x (oN h a) = true) : E_ d mL_law 255 ls (.int x :: .ref a :: st) h = E_ d mL_law 256 ls (.int (oI h a x.toNatClampNeg) :: st) h := e_iald9 dL_law_255 rfl ht hi
theorem wL_law_256 : E_ d mL_law 256 [.val (.ref a), s1, s2, s3] st h = E_ d mL_law 257 [.val (.ref a), s1, s2, s3] (.ref a :: st) h := e_go dL_law_256 rfl rfl
theorem wL_law_257 : E_ d mL_law 257 [s0, s1, s2, .val (.int x)] st h = E_ d mL_law 258 [s0, s1, s2, .val (.int x)] (.int x :: st) h := e_go dL_law_257 rfl rfl
theorem wL_law_258 : E_ d mL_law 258 ls st h = E_ d mL_law 259 ls (.int (nI 4) :: st) h := e_iconst dL_law_258 kiconst_4 rfl
theorem wL_law_259 : E_ d mL_law 259 ls (.int y :: .int x :: st) h = E_ d mL_law 260 ls (.int (x + y) :: st) h := e_go dL_law_259 rfl rfl
theorem wL_law_260 (ht : oT h a = 39) (hi : xix x (oN h a) = true) : E_ d mL_law 260 ls (.int x :: .ref a :: st) h = E_ d mL_law 261 ls (.int (oI h a x.toNatClampNeg) :: st) h := e_iald9 dL_law_260 rfl ht hi
theorem wL_law_261 : E_ d mL_law 261 [.val (.ref a), s1, s2, s3] st h = E_ d mL_law 262 [.val (.ref a), s1, s2, s3] (.ref a :: st) h := e_go dL_law_261 rfl rfl
theorem wL_law_262 : E_ d mL_law 262 [s0, s1, s2, .val (.int x)] st h = E_ d mL_law 263 [s0, s1, s2, .val (.int x)] (.int x :: st) h := e_go dL_law_262 rfl rfl
theorem wL_law_263 : E_ d mL_law 263 ls st h = E_ d mL_law 264 ls (.int (nI 5) :: st) h := e_iconst dL_law_263 kiconst_5 rfl
theorem wL_law_264 : E_ d mL_law 264 ls (.int y :: .int x :: st) h = E_ d mL_law 265 ls (.int (x + y) :: st) h := e_go dL_law_264 rfl rfl
theorem wL_law_265 (ht : oT h a = 39) (hi : xix x (oN h a) = true) : E_ d mL_law 265 ls (.int x :: .ref a :: st) h = E_ d mL_law 266 ls (.int (oI h a x.toNatClampNeg) :: st) h := e_iald9 dL_law_265 rfl ht hi
theorem wL_law_266 (ht : oT h a = 1) : E_ (d + 1) mL_law 266 ls [.int x5, .int x4, .int x3, .int x2, .int x1, .ref a] h = (C_ d mX0_feed [.ref a, .int x1, .int x2, .int x3, .int x4, .int x5] h).bind fun r => E_ (d + 1) mL_law 269 ls (xpu r.1 []) r.2 := e_vir dL_law_266 rfl rfl rfl rfl rfl rfl (Nat.le_of_ble_eq_true rfl) (Nat.le_of_ble_eq_true rfl) ht
theorem wL_law_269 : E_ d mL_law 269 [s0, s1, .val (.ref a), s3] st h = E_ d mL_law 270 [s0, s1, .val (.ref a), s3] (.ref a :: st) h := e_go dL_law_269 rfl rfl
theorem wL_law_270 : E_ d mL_law 270 [.val (.ref a), s1, s2, s3] st h = E_ d mL_law 271 [.val (.ref a), s1, s2, s3] (.ref a :: st) h := e_go dL_law_270 rfl rfl
theorem wL_law_271 : E_ d mL_law 271 [s0, s1, s2, .val (.int x)] st h = E_ d mL_law 272 [s0, s1, s2, .val (.int x)] (.int x :: st) h := e_go dL_law_271 rfl rfl
theorem wL_law_272 : E_ d mL_law 272 ls st h = E_ d mL_law 273 ls (.int (nI 1) :: st) h := e_iconst dL_law_272 kiconst_1 rfl
theorem wL_law_273 : E_ d mL_law 273 ls (.int y :: .int x :: st) h = E_ d mL_law 274 ls (.int (x + y) :: st) h := e_go dL_law_273 rfl rfl
theorem wL_law_274 (ht : oT h a = 39) (hi : xix x (oN h a) = true) : E_ d mL_law 274 ls (.int x :: .ref a :: st) h = E_ d mL_law 275 ls (.int (oI h a x.toNatClampNeg) :: st) h := e_iald9 dL_law_274 rfl ht hi
theorem wL_law_275 : E_ d mL_law 275 [.val (.ref a), s1, s2, s3] st h = E_ d mL_law 276 [.val (.ref a), s1, s2, s3] (.ref a :: st) h := e_go dL_law_275 rfl rfl
theorem wL_law_276 : E_ d mL_law 276 [s0, s1, s2, .val (.int x)] st h = E_ d mL_law 277 [s0, s1, s2, .val (.int x)] (.int x :: st) h := e_go dL_law_276 rfl rfl
theorem wL_law_277 : E_ d mL_law 277 ls st h = E_ d mL_law 278 ls (.int (nI 2) :: st) h := e_iconst dL_law_277 kiconst_2 rfl
theorem wL_law_278 : E_ d mL_law 278 ls (.int y :: .int x :: st) h = E_ d mL_law 279 ls (.int (x + y) :: st) h := e_go dL_law_278 rfl rfl
theorem wL_law_279 (ht : oT h a = 39) (hi : xix x (oN h a) = true) : E_ d mL_law 279 ls (.int x :: .ref a :: st) h = E_ d mL_law 280 ls (.int (oI h a x.toNatClampNeg) :: st) h := e_iald9 dL_law_279 rfl ht hi
theorem wL_law_280 : E_ d mL_law 280 [.val (.ref a), s1, s2, s3] st h = E_ d mL_law 281 [.val (.ref a), s1, s2, s3] (.ref a :: st) h := e_go dL_law_280 rfl rfl
theorem wL_law_281 : E_ d mL_law 281 [s0, s1, s2, .val (.int x)] st h = E_ d mL_law 282 [s0, s1, s2, .val (.int x)] (.int x :: st) h := e_go dL_law_281 rfl rfl
theorem wL_law_282 : E_ d mL_law 282 ls st h = E_ d mL_law 283 ls (.int (nI 3) :: st) h := e_iconst dL_law_282 kiconst_3 rfl
theorem wL_law_283 : E_ d mL_law 283 ls (.int y :: .int x :: st) h = E_ d mL_law 284 ls (.int (x + y) :: st) h := e_go dL_law_283 rfl rfl
theorem wL_law_284 (ht : oT h a = 39) (hi : xix x (oN h a) = true) : E_ d mL_law 284 ls (.int x :: .ref a :: st) h = E_ d mL_law 285 ls (.int (oI h a x.toNatClampNeg) :: st) h := e_iald9 dL_law_284 rfl ht hi
theorem wL_law_285 : E_ d mL_law 285 [.val (.ref a), s1, s2, s3] st h = E_ d mL_law 286 [.val (.ref a), s1, s2, s3] (.ref a :: st) h := e_go dL_law_285 rfl rfl
theorem wL_law_286 : E_ d mL_law 286 [s0, s1, s2, .val (.int x)] st h = E_ d mL_law 287 [s0, s1, s2, .val (.int x)] (.int x :: st) h := e_go dL_law_286 rfl rfl
theorem wL_law_287 : E_ d mL_law 287 ls st h = E_ d mL_law 288 ls (.int (nI 4) :: st) h := e_iconst dL_law_287 kiconst_4 rfl
theorem wL_law_288 : E_ d mL_law 288 ls (.int y :: .int x :: st) h = E_ d mL_law 289 ls (.int (x + y) :: st) h := e_go dL_law_288 rfl rfl
theorem wL_law_289 (ht : oT h a = 39) (hi : xix x (oN h a) = true) : E_ d mL_law 289 ls (.int x :: .ref a :: st) h = E_ d mL_law 290 ls (.int (oI h a x.toNatClampNeg) :: st) h := e_iald9 dL_law_289 rfl ht hi
theorem wL_law_290 : E_ d mL_law 290 [.val (.ref a), s1, s2, s3] st h = E_ d mL_law 291 [.val (.ref a), s1, s2, s3] (.ref a :: st) h := e_go dL_law_290 rfl rfl
theorem wL_law_291 : E_ d mL_law 291 [s0, s1, s2, .val (.int x)] st h = E_ d mL_law 292 [s0, s1, s2, .val (.int x)] (.int x :: st) h := e_go dL_law_291 rfl rfl
theorem wL_law_292 : E_ d mL_law 292 ls st h = E_ d mL_law 293 ls (.int (nI 5) :: st) h := e_iconst dL_law_292 kiconst_5 rfl
theorem wL_law_293 : E_ d mL_law 293 ls (.int y :: .int x :: st) h = E_ d mL_law 294 ls (.int (x + y) :: st) h := e_go dL_law_293 rfl rfl
theorem wL_law_294 (ht : oT h a = 39) (hi : xix x (oN h a) = true) : E_ d mL_law 294 ls (.int x :: .ref a :: st) h = E_ d mL_law 295 ls (.int (oI h a x.toNatClampNeg) :: st) h := e_iald9 dL_law_294 rfl ht hi
theorem wL_law_295 (ht : oT h a = 7) : E_ (d + 1) mL_law 295 ls [.int x5, .int x4, .int x3, .int x2, .int x1, .ref a, .int x6] h = (C_ d mX5_feed [.ref a, .int x1, .int x2, .int x3, .int x4, .int x5] h).bind fun r => E_ (d + 1) mL_law 298 ls (xpu r.1 [.int x6]) r.2 := e_vir dL_law_295 rfl rfl rfl rfl rfl rfl (Nat.le_of_ble_eq_true rfl) (Nat.le_of_ble_eq_true rfl) ht
theorem wL_law_298 : E_ d mL_law 298 ls (.int y :: .int x :: st) h = if x = y then E_ d mL_law 1989 ls st h else E_ d mL_law 301 ls st h := e_ieq dL_law_298 rfl rfl
theorem wL_law_301 : E_ d mL_law 301 ls st h = E_ d mL_law 302 ls (.int (nI 0) :: st) h := e_iconst dL_law_301 kiconst_0 rfl
theorem wL_law_302 (hx : x = 0 ∨ x = 1) : E_ d mL_law 302 ls [.int x] h = some (some (.int x), h) := e_rtZ dL_law_302 rfl hx
theorem wL_law_303 : E_ d mL_law 303 [s0, .val (.ref a), s2, s3] st h = E_ d mL_law 304 [s0, .val (.ref a), s2, s3] (.ref a :: st) h := e_go dL_law_303 rfl rfl
theorem wL_law_304 : E_ d mL_law 304 [.val (.ref a), s1, s2, s3] st h = E_ d mL_law 305 [.val (.ref a), s1, s2, s3] (.ref a :: st) h := e_go dL_law_304 rfl rfl
theorem wL_law_305 : E_ d mL_law 305 [s0, s1, s2, .val (.int x)] st h = E_ d mL_law 306 [s0, s1, s2, .val (.int x)] (.int x :: st) h := e_go dL_law_305 rfl rfl
theorem wL_law_306 : E_ d mL_law 306 ls st h = E_ d mL_law 307 ls (.int (nI 1) :: st) h := e_iconst dL_law_306 kiconst_1 rfl
theorem wL_law_307 : E_ d mL_law 307 ls (.int y :: .int x :: st) h = E_ d mL_law 308 ls (.int (x + y) :: st) h := e_go dL_law_307 rfl rfl
theorem wL_law_308 (ht : oT h a = 39) (hi : xix x (oN h a) = true) : E_ d mL_law 308 ls (.int x :: .ref a :: st) h = E_ d mL_law 309 ls (.int (oI h a x.toNatClampNeg) :: st) h := e_iald9 dL_law_308 rfl ht hi
theorem wL_law_309 : E_ d mL_law 309 [.val (.ref a), s1, s2, s3] st h = E_ d mL_law 310 [.val (.ref a), s1, s2, s3] (.ref a :: st) h := e_go dL_law_309 rfl rfl
theorem wL_law_310 : E_ d mL_law 310 [s0, s1, s2, .val (.int x)] st h = E_ d mL_law 311 [s0, s1, s2, .val (.int x)] (.int x :: st) h := e_go dL_law_310 rfl rfl
theorem wL_law_311 : E_ d mL_law 311 ls st h = E_ d mL_law 312 ls (.int (nI 2) :: st) h := e_iconst dL_law_311 kiconst_2 rfl
theorem wL_law_312 : E_ d mL_law 312 ls (.int y :: .int x :: st) h = E_ d mL_law 313 ls (.int (x + y) :: st) h := e_go dL_law_312 rfl rfl
theorem wL_law_313 (ht : oT h a = 39) (hi : xix x (oN h a) = true) : E_ d mL_law 313 ls (.int x :: .ref a :: st) h = E_ d mL_law 314 ls (.int (oI h a x.toNatClampNeg) :: st) h := e_iald9 dL_law_313 rfl ht hi
theorem wL_law_314 (ht : oT h a = 1) : E_ (d + 1) mL_law 314 ls [.int x2, .int x1, .ref a] h = (C_ d mX0_text [.ref a, .int x1, .int x2] h).bind fun r => E_ (d + 1) mL_law 317 ls (xpu r.1 []) r.2 := e_vir dL_law_314 rfl rfl rfl rfl rfl rfl (Nat.le_of_ble_eq_true rfl) (Nat.le_of_ble_eq_true rfl) ht
theorem wL_law_317 : E_ d mL_law 317 [s0, s1, .val (.ref a), s3] st h = E_ d mL_law 318 [s0, s1, .val (.ref a), s3] (.ref a :: st) h := e_go dL_law_317 rfl rfl
theorem wL_law_318 : E_ d mL_law 318 [.val (.ref a), s1, s2, s3] st h = E_ d mL_law 319 [.val (.ref a), s1, s2, s3] (.ref a :: st) h := e_go dL_law_318 rfl rfl
theorem wL_law_319 : E_ d mL_law 319 [s0, s1, s2, .val (.int x)] st h = E_ d mL_law 320 [s0, s1, s2, .val (.int x)] (.int x :: st) h := e_go dL_law_319 rfl rfl
theorem wL_law_320 : E_ d mL_law 320 ls st h = E_ d mL_law 321 ls (.int (nI 1) :: st) h := e_iconst dL_law_320 kiconst_1 rfl
theorem wL_law_321 : E_ d mL_law 321 ls (.int y :: .int x :: st) h = E_ d mL_law 322 ls (.int (x + y) :: st) h := e_go dL_law_321 rfl rfl
theorem wL_law_322 (ht : oT h a = 39) (hi : xix x (oN h a) = true) : E_ d mL_law 322 ls (.int x :: .ref a :: st) h = E_ d mL_law 323 ls (.int (oI h a x.toNatClampNeg) :: st) h := e_iald9 dL_law_322 rfl ht hi
theorem wL_law_323 : E_ d mL_law 323 [.val (.ref a), s1, s2, s3] st h = E_ d mL_law 324 [.val (.ref a), s1, s2, s3] (.ref a :: st) h := e_go dL_law_323 rfl rfl
theorem wL_law_324 : E_ d mL_law 324 [s0, s1, s2, .val (.int x)] st h = E_ d mL_law 325 [s0, s1, s2, .val (.int x)] (.int x :: st) h := e_go dL_law_324 rfl rfl
theorem wL_law_325 : E_ d mL_law 325 ls st h = E_ d mL_law 326 ls (.int (nI 2) :: st) h := e_iconst dL_law_325 kiconst_2 rfl
theorem wL_law_326 : E_ d mL_law 326 ls (.int y :: .int x :: st) h = E_ d mL_law 327 ls (.int (x + y) :: st) h := e_go dL_law_326 rfl rfl
theorem wL_law_327 (ht : oT h a = 39) (hi : xix x (oN h a) = true) : E_ d mL_law 327 ls (.int x :: .ref a :: st) h = E_ d mL_law 328 ls (.int (oI h a x.toNatClampNeg) :: st) h := e_iald9 dL_law_327 rfl ht hi
theorem wL_law_328 (ht : oT h a = 7) : E_ (d + 1) mL_law 328 ls [.int x2, .int x1, .ref a, .int x3] h = (C_ d mX5_text [.ref a, .int x1, .int x2] h).bind fun r => E_ (d + 1) mL_law 331 ls (xpu r.1 [.int x3]) r.2 := e_vir dL_law_328 rfl rfl rfl rfl rfl rfl (Nat.le_of_ble_eq_true rfl) (Nat.le_of_ble_eq_true rfl) ht
theorem wL_law_331 : E_ d mL_law 331 ls (.int y :: .int x :: st) h = if x = y then E_ d mL_law 1989 ls st h else E_ d mL_law 334 ls st h := e_ieq dL_law_331 rfl rfl
theorem wL_law_334 : E_ d mL_law 334 ls st h = E_ d mL_law 335 ls (.int (nI 0) :: st) h := e_iconst dL_law_334 kiconst_0 rfl
theorem wL_law_335 (hx : x = 0 ∨ x = 1) : E_ d mL_law 335 ls [.int x] h = some (some (.int x), h) := e_rtZ dL_law_335 rfl hx
theorem wL_law_336 : E_ d mL_law 336 [s0, .val (.ref a), s2, s3] st h = E_ d mL_law 337 [s0, .val (.ref a), s2, s3] (.ref a :: st) h := e_go dL_law_336 rfl rfl
theorem wL_law_337 : E_ d mL_law 337 [.val (.ref a), s1, s2, s3] st h = E_ d mL_law 338 [.val (.ref a), s1, s2, s3] (.ref a :: st) h := e_go dL_law_337 rfl rfl
theorem wL_law_338 : E_ d mL_law 338 [s0, s1, s2, .val (.int x)] st h = E_ d mL_law 339 [s0, s1, s2, .val (.int x)] (.int x :: st) h := e_go dL_law_338 rfl rfl
theorem wL_law_339 : E_ d mL_law 339 ls st h = E_ d mL_law 340 ls (.int (nI 1) :: st) h := e_iconst dL_law_339 kiconst_1 rfl
theorem wL_law_340 : E_ d mL_law 340 ls (.int y :: .int x :: st) h = E_ d mL_law 341 ls (.int (x + y) :: st) h := e_go dL_law_340 rfl rfl
theorem wL_law_341 (ht : oT h a = 39) (hi : xix x (oN h a) = true) : E_ d mL_law 341 ls (.int x :: .ref a :: st) h = E_ d mL_law 342 ls (.int (oI h a x.toNatClampNeg) :: st) h := e_iald9 dL_law_341 rfl ht hi
theorem wL_law_342 (ht : oT h a = 1) : E_ (d + 1) mL_law 342 ls [.int x1, .ref a] h = (C_ d mX0_fault [.ref a, .int x1] h).bind fun r => E_ (d + 1) mL_law 345 ls (xpu r.1 []) r.2 := e_vir dL_law_342 rfl rfl rfl rfl rfl rfl (Nat.le_of_ble_eq_true rfl) (Nat.le_of_ble_eq_true rfl) ht
theorem wL_law_345 : E_ d mL_law 345 [s0, s1, .val (.ref a), s3] st h = E_ d mL_law 346 [s0, s1, .val (.ref a), s3] (.ref a :: st) h := e_go dL_law_345 rfl rfl
theorem wL_law_346 : E_ d mL_law 346 [.val (.ref a), s1, s2, s3] st h = E_ d mL_law 347 [.val (.ref a), s1, s2, s3] (.ref a :: st) h := e_go dL_law_346 rfl rfl
theorem wL_law_347 : E_ d mL_law 347 [s0, s1, s2, .val (.int x)] st h = E_ d mL_law 348 [s0, s1, s2, .val (.int x)] (.int x :: st) h := e_go dL_law_347 rfl rfl
theorem wL_law_348 : E_ d mL_law 348 ls st h = E_ d mL_law 349 ls (.int (nI 1) :: st) h := e_iconst dL_law_348 kiconst_1 rfl
theorem wL_law_349 : E_ d mL_law 349 ls (.int y :: .int x :: st) h = E_ d mL_law 350 ls (.int (x + y) :: st) h := e_go dL_law_349 rfl rfl
theorem wL_law_350 (ht : oT h a = 39) (hi : xix x (oN h a) = true) : E_ d mL_law 350 ls (.int x :: .ref a :: st) h = E_ d mL_law 351 ls (.int (oI h a x.toNatClampNeg) :: st) h := e_iald9 dL_law_350 rfl ht hi
theorem wL_law_351 (ht : oT h a = 7) : E_ (d + 1) mL_law 351 ls [.int x1, .ref a, .int x2] h = (C_ d mX5_fault [.ref a, .int x1] h).bind fun r => E_ (d + 1) mL_law 354 ls (xpu r.1 [.int x2]) r.2 := e_vir dL_law_351 rfl rfl rfl rfl rfl rfl (Nat.le_of_ble_eq_true rfl) (Nat.le_of_ble_eq_true rfl) ht
theorem wL_law_354 : E_ d mL_law 354 ls (.int y :: .int x :: st) h = if x = y then E_ d mL_law 1989 ls st h else E_ d mL_law 357 ls st h := e_ieq dL_law_354 rfl rfl
theorem wL_law_357 : E_ d mL_law 357 ls st h = E_ d mL_law 358 ls (.int (nI 0) :: st) h := e_iconst dL_law_357 kiconst_0 rfl
theorem wL_law_358 (hx : x = 0 ∨ x = 1) : E_ d mL_law 358 ls [.int x] h = some (some (.int x), h) := e_rtZ dL_law_358 rfl hx
theorem wL_law_359 : E_ d mL_law 359 [s0, .val (.ref a), s2, s3] st h = E_ d mL_law 360 [s0, .val (.ref a), s2, s3] (.ref a :: st) h := e_go dL_law_359 rfl rfl
theorem wL_law_360 : E_ d mL_law 360 [.val (.ref a), s1, s2, s3] st h = E_ d mL_law 361 [.val (.ref a), s1, s2, s3] (.ref a :: st) h := e_go dL_law_360 rfl rfl
theorem wL_law_361 : E_ d mL_law 361 [s0, s1, s2, .val (.int x)] st h = E_ d mL_law 362 [s0, s1, s2, .val (.int x)] (.int x :: st) h := e_go dL_law_361 rfl rfl
theorem wL_law_362 : E_ d mL_law 362 ls st h = E_ d mL_law 363 ls (.int (nI 1) :: st) h := e_iconst dL_law_362 kiconst_1 rfl
theorem wL_law_363 : E_ d mL_law 363 ls (.int y :: .int x :: st) h = E_ d mL_law 364 ls (.int (x + y) :: st) h := e_go dL_law_363 rfl rfl
theorem wL_law_364 (ht : oT h a = 39) (hi : xix x (oN h a) = true) : E_ d mL_law 364 ls (.int x :: .ref a :: st) h = E_ d mL_law 365 ls (.int (oI h a x.toNatClampNeg) :: st) h := e_iald9 dL_law_364 rfl ht hi
theorem wL_law_365 : E_ d mL_law 365 [.val (.ref a), s1, s2, s3] st h = E_ d mL_law 366 [.val (.ref a), s1, s2, s3] (.ref a :: st) h := e_go dL_law_365 rfl rfl
theorem wL_law_366 : E_ d mL_law 366 [s0, s1, s2, .val (.int x)] st h = E_ d mL_law 367 [s0, s1, s2, .val (.int x)] (.int x :: st) h := e_go dL_law_366 rfl rfl
theorem wL_law_367 : E_ d mL_law 367 ls st h = E_ d mL_law 368 ls (.int (nI 2) :: st) h := e_iconst dL_law_367 kiconst_2 rfl
theorem wL_law_368 : E_ d mL_law 368 ls (.int y :: .int x :: st) h = E_ d mL_law 369 ls (.int (x + y) :: st) h := e_go dL_law_368 rfl rfl
theorem wL_law_369 (ht : oT h a = 39) (hi : xix x (oN h a) = true) : E_ d mL_law 369 ls (.int x :: .ref a :: st) h = E_ d mL_law 370 ls (.int (oI h a x.toNatClampNeg) :: st) h := e_iald9 dL_law_369 rfl ht hi
theorem wL_law_370 (ht : oT h a = 1) : E_ (d + 1) mL_law 370 ls [.int x2, .int x1, .ref a] h = (C_ d mX0_car [.ref a, .int x1, .int x2] h).bind fun r => E_ (d + 1) mL_law 373 ls (xpu r.1 []) r.2 := e_vir dL_law_370 rfl rfl rfl rfl rfl rfl (Nat.le_of_ble_eq_true rfl) (Nat.le_of_ble_eq_true rfl) ht
theorem wL_law_373 : E_ d mL_law 373 [s0, s1, .val (.ref a), s3] st h = E_ d mL_law 374 [s0, s1, .val (.ref a), s3] (.ref a :: st) h := e_go dL_law_373 rfl rfl
theorem wL_law_374 : E_ d mL_law 374 [.val (.ref a), s1, s2, s3] st h = E_ d mL_law 375 [.val (.ref a), s1, s2, s3] (.ref a :: st) h := e_go dL_law_374 rfl rfl
theorem wL_law_375 : E_ d mL_law 375 [s0, s1, s2, .val (.int x)] st h = E_ d mL_law 376 [s0, s1, s2, .val (.int x)] (.int x :: st) h := e_go dL_law_375 rfl rfl
theorem wL_law_376 : E_ d mL_law 376 ls st h = E_ d mL_law 377 ls (.int (nI 1) :: st) h := e_iconst dL_law_376 kiconst_1 rfl
theorem wL_law_377 : E_ d mL_law 377 ls (.int y :: .int x :: st) h = E_ d mL_law 378 ls (.int (x + y) :: st) h := e_go dL_law_377 rfl rfl
theorem wL_law_378 (ht : oT h a = 39) (hi : xix x (oN h a) = true) : E_ d mL_law 378 ls (.int x :: .ref a :: st) h = E_ d mL_law 379 ls (.int (oI h a x.toNatClampNeg) :: st) h := e_iald9 dL_law_378 rfl ht hi
theorem wL_law_379 : E_ d mL_law 379 [.val (.ref a), s1, s2, s3] st h = E_ d mL_law 380 [.val (.ref a), s1, s2, s3] (.ref a :: st) h := e_go dL_law_379 rfl rfl
theorem wL_law_380 : E_ d mL_law 380 [s0, s1, s2, .val (.int x)] st h = E_ d mL_law 381 [s0, s1, s2, .val (.int x)] (.int x :: st) h := e_go dL_law_380 rfl rfl
theorem wL_law_381 : E_ d mL_law 381 ls st h = E_ d mL_law 382 ls (.int (nI 2) :: st) h := e_iconst dL_law_381 kiconst_2 rfl
theorem wL_law_382 : E_ d mL_law 382 ls (.int y :: .int x :: st) h = E_ d mL_law 383 ls (.int (x + y) :: st) h := e_go dL_law_382 rfl rfl
theorem wL_law_383 (ht : oT h a = 39) (hi : xix x (oN h a) = true) : E_ d mL_law 383 ls (.int x :: .ref a :: st) h = E_ d mL_law 384 ls (.int (oI h a x.toNatClampNeg) :: st) h := e_iald9 dL_law_383 rfl ht hi
theorem wL_law_384 (ht : oT h a = 7) : E_ (d + 1) mL_law 384 ls [.int x2, .int x1, .ref a, .int x3] h = (C_ d mX5_car [.ref a, .int x1, .int x2] h).bind fun r => E_ (d + 1) mL_law 387 ls (xpu r.1 [.int x3]) r.2 := e_vir dL_law_384 rfl rfl rfl rfl rfl rfl (Nat.le_of_ble_eq_true rfl) (Nat.le_of_ble_eq_true rfl) ht
theorem wL_law_387 : E_ d mL_law 387 ls (.int y :: .int x :: st) h = if x = y then E_ d mL_law 1989 ls st h else E_ d mL_law 390 ls st h := e_ieq dL_law_387 rfl rfl
theorem wL_law_390 : E_ d mL_law 390 ls st h = E_ d mL_law 391 ls (.int (nI 0) :: st) h := e_iconst dL_law_390 kiconst_0 rfl
theorem wL_law_391 (hx : x = 0 ∨ x = 1) : E_ d mL_law 391 ls [.int x] h = some (some (.int x), h) := e_rtZ dL_law_391 rfl hx
theorem wL_law_392 : E_ d mL_law 392 [s0, .val (.ref a), s2, s3] st h = E_ d mL_law 393 [s0, .val (.ref a), s2, s3] (.ref a :: st) h := e_go dL_law_392 rfl rfl
theorem wL_law_393 : E_ d mL_law 393 [.val (.ref a), s1, s2, s3] st h = E_ d mL_law 394 [.val (.ref a), s1, s2, s3] (.ref a :: st) h := e_go dL_law_393 rfl rfl
theorem wL_law_394 : E_ d mL_law 394 [s0, s1, s2, .val (.int x)] st h = E_ d mL_law 395 [s0, s1, s2, .val (.int x)] (.int x :: st) h := e_go dL_law_394 rfl rfl
theorem wL_law_395 : E_ d mL_law 395 ls st h = E_ d mL_law 396 ls (.int (nI 1) :: st) h := e_iconst dL_law_395 kiconst_1 rfl
theorem wL_law_396 : E_ d mL_law 396 ls (.int y :: .int x :: st) h = E_ d mL_law 397 ls (.int (x + y) :: st) h := e_go dL_law_396 rfl rfl
theorem wL_law_397 (ht : oT h a = 39) (hi : xix x (oN h a) = true) : E_ d mL_law 397 ls (.int x :: .ref a :: st) h = E_ d mL_law 398 ls (.int (oI h a x.toNatClampNeg) :: st) h := e_iald9 dL_law_397 rfl ht hi
theorem wL_law_398 : E_ d mL_law 398 [.val (.ref a), s1, s2, s3] st h = E_ d mL_law 399 [.val (.ref a), s1, s2, s3] (.ref a :: st) h := e_go dL_law_398 rfl rfl
theorem wL_law_399 : E_ d mL_law 399 [s0, s1, s2, .val (.int x)] st h = E_ d mL_law 400 [s0, s1, s2, .val (.int x)] (.int x :: st) h := e_go dL_law_399 rfl rfl
theorem wL_law_400 : E_ d mL_law 400 ls st h = E_ d mL_law 401 ls (.int (nI 2) :: st) h := e_iconst dL_law_400 kiconst_2 rfl
theorem wL_law_401 : E_ d mL_law 401 ls (.int y :: .int x :: st) h = E_ d mL_law 402 ls (.int (x + y) :: st) h := e_go dL_law_401 rfl rfl
theorem wL_law_402 (ht : oT h a = 39) (hi : xix x (oN h a) = true) : E_ d mL_law 402 ls (.int x :: .ref a :: st) h = E_ d mL_law 403 ls (.int (oI h a x.toNatClampNeg) :: st) h := e_iald9 dL_law_402 rfl ht hi
theorem wL_law_403 : E_ d mL_law 403 ls (.int x :: st) h = if x = 0 then E_ d mL_law 410 ls st h else E_ d mL_law 406 ls st h := e_zeq dL_law_403 rfl rfl
theorem wL_law_406 : E_ d mL_law 406 ls st h = E_ d mL_law 407 ls (.int (nI 1) :: st) h := e_iconst dL_law_406 kiconst_1 rfl
theorem wL_law_407 : E_ d mL_law 407 ls st h = E_ d mL_law 411 ls st h := e_gt dL_law_407 rfl
theorem wL_law_410 : E_ d mL_law 410 ls st h = E_ d mL_law 411 ls (.int (nI 0) :: st) h := e_iconst dL_law_410 kiconst_0 rfl
theorem wL_law_411 (ht : oT h a = 1) : E_ (d + 1) mL_law 411 ls [.int x2, .int x1, .ref a] h = (C_ d mX0_trait [.ref a, .int x1, .int x2] h).bind fun r => E_ (d + 1) mL_law 414 ls (xpu r.1 []) r.2 := e_vir dL_law_411 rfl rfl rfl rfl rfl rfl (Nat.le_of_ble_eq_true rfl) (Nat.le_of_ble_eq_true rfl) ht
theorem wL_law_414 : E_ d mL_law 414 [s0, s1, .val (.ref a), s3] st h = E_ d mL_law 415 [s0, s1, .val (.ref a), s3] (.ref a :: st) h := e_go dL_law_414 rfl rfl
theorem wL_law_415 : E_ d mL_law 415 [.val (.ref a), s1, s2, s3] st h = E_ d mL_law 416 [.val (.ref a), s1, s2, s3] (.ref a :: st) h := e_go dL_law_415 rfl rfl
theorem wL_law_416 : E_ d mL_law 416 [s0, s1, s2, .val (.int x)] st h = E_ d mL_law 417 [s0, s1, s2, .val (.int x)] (.int x :: st) h := e_go dL_law_416 rfl rfl
theorem wL_law_417 : E_ d mL_law 417 ls st h = E_ d mL_law 418 ls (.int (nI 1) :: st) h := e_iconst dL_law_417 kiconst_1 rfl
theorem wL_law_418 : E_ d mL_law 418 ls (.int y :: .int x :: st) h = E_ d mL_law 419 ls (.int (x + y) :: st) h := e_go dL_law_418 rfl rfl
theorem wL_law_419 (ht : oT h a = 39) (hi : xix x (oN h a) = true) : E_ d mL_law 419 ls (.int x :: .ref a :: st) h = E_ d mL_law 420 ls (.int (oI h a x.toNatClampNeg) :: st) h := e_iald9 dL_law_419 rfl ht hi
theorem wL_law_420 : E_ d mL_law 420 [.val (.ref a), s1, s2, s3] st h = E_ d mL_law 421 [.val (.ref a), s1, s2, s3] (.ref a :: st) h := e_go dL_law_420 rfl rfl
theorem wL_law_421 : E_ d mL_law 421 [s0, s1, s2, .val (.int x)] st h = E_ d mL_law 422 [s0, s1, s2, .val (.int x)] (.int x :: st) h := e_go dL_law_421 rfl rfl
theorem wL_law_422 : E_ d mL_law 422 ls st h = E_ d mL_law 423 ls (.int (nI 2) :: st) h := e_iconst dL_law_422 kiconst_2 rfl
theorem wL_law_423 : E_ d mL_law 423 ls (.int y :: .int x :: st) h = E_ d mL_law 424 ls (.int (x + y) :: st) h := e_go dL_law_423 rfl rfl
theorem wL_law_424 (ht : oT h a = 39) (hi : xix x (oN h a) = true) : E_ d mL_law 424 ls (.int x :: .ref a :: st) h = E_ d mL_law 425 ls (.int (oI h a x.toNatClampNeg) :: st) h := e_iald9 dL_law_424 rfl ht hi
theorem wL_law_425 : E_ d mL_law 425 ls (.int x :: st) h = if x = 0 then E_ d mL_law 432 ls st h else E_ d mL_law 428 ls st h := e_zeq dL_law_425 rfl rfl
theorem wL_law_428 : E_ d mL_law 428 ls st h = E_ d mL_law 429 ls (.int (nI 1) :: st) h := e_iconst dL_law_428 kiconst_1 rfl
theorem wL_law_429 : E_ d mL_law 429 ls st h = E_ d mL_law 433 ls st h := e_gt dL_law_429 rfl
theorem wL_law_432 : E_ d mL_law 432 ls st h = E_ d mL_law 433 ls (.int (nI 0) :: st) h := e_iconst dL_law_432 kiconst_0 rfl
theorem wL_law_433 (ht : oT h a = 7) : E_ (d + 1) mL_law 433 ls [.int x2, .int x1, .ref a, .int x3] h = (C_ d mX5_trait [.ref a, .int x1, .int x2] h).bind fun r => E_ (d + 1) mL_law 436 ls (xpu r.1 [.int x3]) r.2 := e_vir dL_law_433 rfl rfl rfl rfl rfl rfl (Nat.le_of_ble_eq_true rfl) (Nat.le_of_ble_eq_true rfl) ht
theorem wL_law_436 : E_ d mL_law 436 ls (.int y :: .int x :: st) h = if x = y then E_ d mL_law 1989 ls st h else E_ d mL_law 439 ls st h := e_ieq dL_law_436 rfl rfl
theorem wL_law_439 : E_ d mL_law 439 ls st h = E_ d mL_law 440 ls (.int (nI 0) :: st) h := e_iconst dL_law_439 kiconst_0 rfl
theorem wL_law_440 (hx : x = 0 ∨ x = 1) : E_ d mL_law 440 ls [.int x] h = some (some (.int x), h) := e_rtZ dL_law_440 rfl hx
theorem wL_law_441 : E_ d mL_law 441 [s0, .val (.ref a), s2, s3] st h = E_ d mL_law 442 [s0, .val (.ref a), s2, s3] (.ref a :: st) h := e_go dL_law_441 rfl rfl
theorem wL_law_442 : E_ d mL_law 442 [.val (.ref a), s1, s2, s3] st h = E_ d mL_law 443 [.val (.ref a), s1, s2, s3] (.ref a :: st) h := e_go dL_law_442 rfl rfl
theorem wL_law_443 : E_ d mL_law 443 [s0, s1, s2, .val (.int x)] st h = E_ d mL_law 444 [s0, s1, s2, .val (.int x)] (.int x :: st) h := e_go dL_law_443 rfl rfl
theorem wL_law_444 : E_ d mL_law 444 ls st h = E_ d mL_law 445 ls (.int (nI 1) :: st) h := e_iconst dL_law_444 kiconst_1 rfl
theorem wL_law_445 : E_ d mL_law 445 ls (.int y :: .int x :: st) h = E_ d mL_law 446 ls (.int (x + y) :: st) h := e_go dL_law_445 rfl rfl
theorem wL_law_446 (ht : oT h a = 39) (hi : xix x (oN h a) = true) : E_ d mL_law 446 ls (.int x :: .ref a :: st) h = E_ d mL_law 447 ls (.int (oI h a x.toNatClampNeg) :: st) h := e_iald9 dL_law_446 rfl ht hi
theorem wL_law_447 : E_ d mL_law 447 [.val (.ref a), s1, s2, s3] st h = E_ d mL_law 448 [.val (.ref a), s1, s2, s3] (.ref a :: st) h := e_go dL_law_447 rfl rfl
theorem wL_law_448 : E_ d mL_law 448 [s0, s1, s2, .val (.int x)] st h = E_ d mL_law 449 [s0, s1, s2, .val (.int x)] (.int x :: st) h := e_go dL_law_448 rfl rfl
theorem wL_law_449 : E_ d mL_law 449 ls st h = E_ d mL_law 450 ls (.int (nI 2) :: st) h := e_iconst dL_law_449 kiconst_2 rfl
theorem wL_law_450 : E_ d mL_law 450 ls (.int y :: .int x :: st) h = E_ d mL_law 451 ls (.int (x + y) :: st) h := e_go dL_law_450 rfl rfl
theorem wL_law_451 (ht : oT h a = 39) (hi : xix x (oN h a) = true) : E_ d mL_law 451 ls (.int x :: .ref a :: st) h = E_ d mL_law 452 ls (.int (oI h a x.toNatClampNeg) :: st) h := e_iald9 dL_law_451 rfl ht hi
theorem wL_law_452 (ht : oT h a = 1) : E_ (d + 1) mL_law 452 ls [.int x2, .int x1, .ref a] h = (C_ d mX0_set [.ref a, .int x1, .int x2] h).bind fun r => E_ (d + 1) mL_law 455 ls (xpu r.1 []) r.2 := e_vir dL_law_452 rfl rfl rfl rfl rfl rfl (Nat.le_of_ble_eq_true rfl) (Nat.le_of_ble_eq_true rfl) ht
theorem wL_law_455 : E_ d mL_law 455 [s0, s1, .val (.ref a), s3] st h = E_ d mL_law 456 [s0, s1, .val (.ref a), s3] (.ref a :: st) h := e_go dL_law_455 rfl rfl
theorem wL_law_456 : E_ d mL_law 456 [.val (.ref a), s1, s2, s3] st h = E_ d mL_law 457 [.val (.ref a), s1, s2, s3] (.ref a :: st) h := e_go dL_law_456 rfl rfl
theorem wL_law_457 : E_ d mL_law 457 [s0, s1, s2, .val (.int x)] st h = E_ d mL_law 458 [s0, s1, s2, .val (.int x)] (.int x :: st) h := e_go dL_law_457 rfl rfl
theorem wL_law_458 : E_ d mL_law 458 ls st h = E_ d mL_law 459 ls (.int (nI 1) :: st) h := e_iconst dL_law_458 kiconst_1 rfl
theorem wL_law_459 : E_ d mL_law 459 ls (.int y :: .int x :: st) h = E_ d mL_law 460 ls (.int (x + y) :: st) h := e_go dL_law_459 rfl rfl
theorem wL_law_460 (ht : oT h a = 39) (hi : xix x (oN h a) = true) : E_ d mL_law 460 ls (.int x :: .ref a :: st) h = E_ d mL_law 461 ls (.int (oI h a x.toNatClampNeg) :: st) h := e_iald9 dL_law_460 rfl ht hi
theorem wL_law_461 : E_ d mL_law 461 [.val (.ref a), s1, s2, s3] st h = E_ d mL_law 462 [.val (.ref a), s1, s2, s3] (.ref a :: st) h := e_go dL_law_461 rfl rfl
theorem wL_law_462 : E_ d mL_law 462 [s0, s1, s2, .val (.int x)] st h = E_ d mL_law 463 [s0, s1, s2, .val (.int x)] (.int x :: st) h := e_go dL_law_462 rfl rfl
theorem wL_law_463 : E_ d mL_law 463 ls st h = E_ d mL_law 464 ls (.int (nI 2) :: st) h := e_iconst dL_law_463 kiconst_2 rfl
theorem wL_law_464 : E_ d mL_law 464 ls (.int y :: .int x :: st) h = E_ d mL_law 465 ls (.int (x + y) :: st) h := e_go dL_law_464 rfl rfl
theorem wL_law_465 (ht : oT h a = 39) (hi : xix x (oN h a) = true) : E_ d mL_law 465 ls (.int x :: .ref a :: st) h = E_ d mL_law 466 ls (.int (oI h a x.toNatClampNeg) :: st) h := e_iald9 dL_law_465 rfl ht hi
theorem wL_law_466 (ht : oT h a = 7) : E_ (d + 1) mL_law 466 ls [.int x2, .int x1, .ref a, .int x3] h = (C_ d mX5_set [.ref a, .int x1, .int x2] h).bind fun r => E_ (d + 1) mL_law 469 ls (xpu r.1 [.int x3]) r.2 := e_vir dL_law_466 rfl rfl rfl rfl rfl rfl (Nat.le_of_ble_eq_true rfl) (Nat.le_of_ble_eq_true rfl) ht
theorem wL_law_469 : E_ d mL_law 469 ls (.int y :: .int x :: st) h = if x = y then E_ d mL_law 1989 ls st h else E_ d mL_law 472 ls st h := e_ieq dL_law_469 rfl rfl
theorem wL_law_472 : E_ d mL_law 472 ls st h = E_ d mL_law 473 ls (.int (nI 0) :: st) h := e_iconst dL_law_472 kiconst_0 rfl
theorem wL_law_473 (hx : x = 0 ∨ x = 1) : E_ d mL_law 473 ls [.int x] h = some (some (.int x), h) := e_rtZ dL_law_473 rfl hx
theorem wL_law_474 : E_ d mL_law 474 [s0, .val (.ref a), s2, s3] st h = E_ d mL_law 475 [s0, .val (.ref a), s2, s3] (.ref a :: st) h := e_go dL_law_474 rfl rfl
theorem wL_law_475 : E_ d mL_law 475 [.val (.ref a), s1, s2, s3] st h = E_ d mL_law 476 [.val (.ref a), s1, s2, s3] (.ref a :: st) h := e_go dL_law_475 rfl rfl
theorem wL_law_476 : E_ d mL_law 476 [s0, s1, s2, .val (.int x)] st h = E_ d mL_law 477 [s0, s1, s2, .val (.int x)] (.int x :: st) h := e_go dL_law_476 rfl rfl
theorem wL_law_477 : E_ d mL_law 477 ls st h = E_ d mL_law 478 ls (.int (nI 1) :: st) h := e_iconst dL_law_477 kiconst_1 rfl
theorem wL_law_478 : E_ d mL_law 478 ls (.int y :: .int x :: st) h = E_ d mL_law 479 ls (.int (x + y) :: st) h := e_go dL_law_478 rfl rfl
theorem wL_law_479 (ht : oT h a = 39) (hi : xix x (oN h a) = true) : E_ d mL_law 479 ls (.int x :: .ref a :: st) h = E_ d mL_law 480 ls (.int (oI h a x.toNatClampNeg) :: st) h := e_iald9 dL_law_479 rfl ht hi
theorem wL_law_480 (ht : oT h a = 1) : E_ (d + 1) mL_law 480 ls [.int x1, .ref a] h = (C_ d mX0_chance [.ref a, .int x1] h).bind fun r => E_ (d + 1) mL_law 483 ls (xpu r.1 []) r.2 := e_vir dL_law_480 rfl rfl rfl rfl rfl rfl (Nat.le_of_ble_eq_true rfl) (Nat.le_of_ble_eq_true rfl) ht
theorem wL_law_483 : E_ d mL_law 483 [s0, s1, .val (.ref a), s3] st h = E_ d mL_law 484 [s0, s1, .val (.ref a), s3] (.ref a :: st) h := e_go dL_law_483 rfl rfl
theorem wL_law_484 : E_ d mL_law 484 [.val (.ref a), s1, s2, s3] st h = E_ d mL_law 485 [.val (.ref a), s1, s2, s3] (.ref a :: st) h := e_go dL_law_484 rfl rfl
theorem wL_law_485 : E_ d mL_law 485 [s0, s1, s2, .val (.int x)] st h = E_ d mL_law 486 [s0, s1, s2, .val (.int x)] (.int x :: st) h := e_go dL_law_485 rfl rfl
theorem wL_law_486 : E_ d mL_law 486 ls st h = E_ d mL_law 487 ls (.int (nI 1) :: st) h := e_iconst dL_law_486 kiconst_1 rfl
theorem wL_law_487 : E_ d mL_law 487 ls (.int y :: .int x :: st) h = E_ d mL_law 488 ls (.int (x + y) :: st) h := e_go dL_law_487 rfl rfl
theorem wL_law_488 (ht : oT h a = 39) (hi : xix x (oN h a) = true) : E_ d mL_law 488 ls (.int x :: .ref a :: st) h = E_ d mL_law 489 ls (.int (oI h a x.toNatClampNeg) :: st) h := e_iald9 dL_law_488 rfl ht hi
theorem wL_law_489 (ht : oT h a = 7) : E_ (d + 1) mL_law 489 ls [.int x1, .ref a, .int x2] h = (C_ d mX5_chance [.ref a, .int x1] h).bind fun r => E_ (d + 1) mL_law 492 ls (xpu r.1 [.int x2]) r.2 := e_vir dL_law_489 rfl rfl rfl rfl rfl rfl (Nat.le_of_ble_eq_true rfl) (Nat.le_of_ble_eq_true rfl) ht
theorem wL_law_492 : E_ d mL_law 492 ls (.int y :: .int x :: st) h = if x = y then E_ d mL_law 1989 ls st h else E_ d mL_law 495 ls st h := e_ieq dL_law_492 rfl rfl
theorem wL_law_495 : E_ d mL_law 495 ls st h = E_ d mL_law 496 ls (.int (nI 0) :: st) h := e_iconst dL_law_495 kiconst_0 rfl
theorem wL_law_496 (hx : x = 0 ∨ x = 1) : E_ d mL_law 496 ls [.int x] h = some (some (.int x), h) := e_rtZ dL_law_496 rfl hx
theorem wL_law_497 : E_ d mL_law 497 [s0, .val (.ref a), s2, s3] st h = E_ d mL_law 498 [s0, .val (.ref a), s2, s3] (.ref a :: st) h := e_go dL_law_497 rfl rfl
theorem wL_law_498 : E_ d mL_law 498 [.val (.ref a), s1, s2, s3] st h = E_ d mL_law 499 [.val (.ref a), s1, s2, s3] (.ref a :: st) h := e_go dL_law_498 rfl rfl
theorem wL_law_499 : E_ d mL_law 499 [s0, s1, s2, .val (.int x)] st h = E_ d mL_law 500 [s0, s1, s2, .val (.int x)] (.int x :: st) h := e_go dL_law_499 rfl rfl
theorem wL_law_500 : E_ d mL_law 500 ls st h = E_ d mL_law 501 ls (.int (nI 1) :: st) h := e_iconst dL_law_500 kiconst_1 rfl
theorem wL_law_501 : E_ d mL_law 501 ls (.int y :: .int x :: st) h = E_ d mL_law 502 ls (.int (x + y) :: st) h := e_go dL_law_501 rfl rfl
theorem wL_law_502 (ht : oT h a = 39) (hi : xix x (oN h a) = true) : E_ d mL_law 502 ls (.int x :: .ref a :: st) h = E_ d mL_law 503 ls (.int (oI h a x.toNatClampNeg) :: st) h := e_iald9 dL_law_502 rfl ht hi
theorem wL_law_503 (ht : oT h a = 1) : E_ (d + 1) mL_law 503 ls [.int x1, .ref a] h = (C_ d mX0_can [.ref a, .int x1] h).bind fun r => E_ (d + 1) mL_law 506 ls (xpu r.1 []) r.2 := e_vir dL_law_503 rfl rfl rfl rfl rfl rfl (Nat.le_of_ble_eq_true rfl) (Nat.le_of_ble_eq_true rfl) ht
theorem wL_law_506 : E_ d mL_law 506 [s0, s1, .val (.ref a), s3] st h = E_ d mL_law 507 [s0, s1, .val (.ref a), s3] (.ref a :: st) h := e_go dL_law_506 rfl rfl
theorem wL_law_507 : E_ d mL_law 507 [.val (.ref a), s1, s2, s3] st h = E_ d mL_law 508 [.val (.ref a), s1, s2, s3] (.ref a :: st) h := e_go dL_law_507 rfl rfl
theorem wL_law_508 : E_ d mL_law 508 [s0, s1, s2, .val (.int x)] st h = E_ d mL_law 509 [s0, s1, s2, .val (.int x)] (.int x :: st) h := e_go dL_law_508 rfl rfl
theorem wL_law_509 : E_ d mL_law 509 ls st h = E_ d mL_law 510 ls (.int (nI 1) :: st) h := e_iconst dL_law_509 kiconst_1 rfl
theorem wL_law_510 : E_ d mL_law 510 ls (.int y :: .int x :: st) h = E_ d mL_law 511 ls (.int (x + y) :: st) h := e_go dL_law_510 rfl rfl
theorem wL_law_511 (ht : oT h a = 39) (hi : xix x (oN h a) = true) : E_ d mL_law 511 ls (.int x :: .ref a :: st) h = E_ d mL_law 512 ls (.int (oI h a x.toNatClampNeg) :: st) h := e_iald9 dL_law_511 rfl ht hi
theorem wL_law_512 (ht : oT h a = 7) : E_ (d + 1) mL_law 512 ls [.int x1, .ref a, .int x2] h = (C_ d mX5_can [.ref a, .int x1] h).bind fun r => E_ (d + 1) mL_law 515 ls (xpu r.1 [.int x2]) r.2 := e_vir dL_law_512 rfl rfl rfl rfl rfl rfl (Nat.le_of_ble_eq_true rfl) (Nat.le_of_ble_eq_true rfl) ht
theorem wL_law_515 : E_ d mL_law 515 ls (.int y :: .int x :: st) h = if x = y then E_ d mL_law 1989 ls st h else E_ d mL_law 518 ls st h := e_ieq dL_law_515 rfl rfl
theorem wL_law_518 : E_ d mL_law 518 ls st h = E_ d mL_law 519 ls (.int (nI 0) :: st) h := e_iconst dL_law_518 kiconst_0 rfl
theorem wL_law_519 (hx : x = 0 ∨ x = 1) : E_ d mL_law 519 ls [.int x] h = some (some (.int x), h) := e_rtZ dL_law_519 rfl hx
theorem wL_law_520 : E_ d mL_law 520 [s0, .val (.ref a), s2, s3] st h = E_ d mL_law 521 [s0, .val (.ref a), s2, s3] (.ref a :: st) h := e_go dL_law_520 rfl rfl
theorem wL_law_521 : E_ d mL_law 521 [.val (.ref a), s1, s2, s3] st h = E_ d mL_law 522 [.val (.ref a), s1, s2, s3] (.ref a :: st) h := e_go dL_law_521 rfl rfl
theorem wL_law_522 : E_ d mL_law 522 [s0, s1, s2, .val (.int x)] st h = E_ d mL_law 523 [s0, s1, s2, .val (.int x)] (.int x :: st) h := e_go dL_law_522 rfl rfl
theorem wL_law_523 : E_ d mL_law 523 ls st h = E_ d mL_law 524 ls (.int (nI 1) :: st) h := e_iconst dL_law_523 kiconst_1 rfl
theorem wL_law_524 : E_ d mL_law 524 ls (.int y :: .int x :: st) h = E_ d mL_law 525 ls (.int (x + y) :: st) h := e_go dL_law_524 rfl rfl
theorem wL_law_525 (ht : oT h a = 39) (hi : xix x (oN h a) = true) : E_ d mL_law 525 ls (.int x :: .ref a :: st) h = E_ d mL_law 526 ls (.int (oI h a x.toNatClampNeg) :: st) h := e_iald9 dL_law_525 rfl ht hi
theorem wL_law_526 : E_ d mL_law 526 [.val (.ref a), s1, s2, s3] st h = E_ d mL_law 527 [.val (.ref a), s1, s2, s3] (.ref a :: st) h := e_go dL_law_526 rfl rfl
theorem wL_law_527 : E_ d mL_law 527 [s0, s1, s2, .val (.int x)] st h = E_ d mL_law 528 [s0, s1, s2, .val (.int x)] (.int x :: st) h := e_go dL_law_527 rfl rfl
theorem wL_law_528 : E_ d mL_law 528 ls st h = E_ d mL_law 529 ls (.int (nI 2) :: st) h := e_iconst dL_law_528 kiconst_2 rfl
theorem wL_law_529 : E_ d mL_law 529 ls (.int y :: .int x :: st) h = E_ d mL_law 530 ls (.int (x + y) :: st) h := e_go dL_law_529 rfl rfl
theorem wL_law_530 (ht : oT h a = 39) (hi : xix x (oN h a) = true) : E_ d mL_law 530 ls (.int x :: .ref a :: st) h = E_ d mL_law 531 ls (.int (oI h a x.toNatClampNeg) :: st) h := e_iald9 dL_law_530 rfl ht hi
theorem wL_law_531 (ht : oT h a = 1) : E_ (d + 1) mL_law 531 ls [.int x2, .int x1, .ref a] h = (C_ d mX0_run [.ref a, .int x1, .int x2] h).bind fun r => E_ (d + 1) mL_law 534 ls (xpu r.1 []) r.2 := e_vir dL_law_531 rfl rfl rfl rfl rfl rfl (Nat.le_of_ble_eq_true rfl) (Nat.le_of_ble_eq_true rfl) ht
theorem wL_law_534 : E_ d mL_law 534 [s0, s1, .val (.ref a), s3] st h = E_ d mL_law 535 [s0, s1, .val (.ref a), s3] (.ref a :: st) h := e_go dL_law_534 rfl rfl
theorem wL_law_535 : E_ d mL_law 535 [.val (.ref a), s1, s2, s3] st h = E_ d mL_law 536 [.val (.ref a), s1, s2, s3] (.ref a :: st) h := e_go dL_law_535 rfl rfl
theorem wL_law_536 : E_ d mL_law 536 [s0, s1, s2, .val (.int x)] st h = E_ d mL_law 537 [s0, s1, s2, .val (.int x)] (.int x :: st) h := e_go dL_law_536 rfl rfl
theorem wL_law_537 : E_ d mL_law 537 ls st h = E_ d mL_law 538 ls (.int (nI 1) :: st) h := e_iconst dL_law_537 kiconst_1 rfl
theorem wL_law_538 : E_ d mL_law 538 ls (.int y :: .int x :: st) h = E_ d mL_law 539 ls (.int (x + y) :: st) h := e_go dL_law_538 rfl rfl
theorem wL_law_539 (ht : oT h a = 39) (hi : xix x (oN h a) = true) : E_ d mL_law 539 ls (.int x :: .ref a :: st) h = E_ d mL_law 540 ls (.int (oI h a x.toNatClampNeg) :: st) h := e_iald9 dL_law_539 rfl ht hi
theorem wL_law_540 : E_ d mL_law 540 [.val (.ref a), s1, s2, s3] st h = E_ d mL_law 541 [.val (.ref a), s1, s2, s3] (.ref a :: st) h := e_go dL_law_540 rfl rfl
theorem wL_law_541 : E_ d mL_law 541 [s0, s1, s2, .val (.int x)] st h = E_ d mL_law 542 [s0, s1, s2, .val (.int x)] (.int x :: st) h := e_go dL_law_541 rfl rfl
theorem wL_law_542 : E_ d mL_law 542 ls st h = E_ d mL_law 543 ls (.int (nI 2) :: st) h := e_iconst dL_law_542 kiconst_2 rfl
theorem wL_law_543 : E_ d mL_law 543 ls (.int y :: .int x :: st) h = E_ d mL_law 544 ls (.int (x + y) :: st) h := e_go dL_law_543 rfl rfl
theorem wL_law_544 (ht : oT h a = 39) (hi : xix x (oN h a) = true) : E_ d mL_law 544 ls (.int x :: .ref a :: st) h = E_ d mL_law 545 ls (.int (oI h a x.toNatClampNeg) :: st) h := e_iald9 dL_law_544 rfl ht hi
theorem wL_law_545 (ht : oT h a = 7) : E_ (d + 1) mL_law 545 ls [.int x2, .int x1, .ref a, .int x3] h = (C_ d mX5_run [.ref a, .int x1, .int x2] h).bind fun r => E_ (d + 1) mL_law 548 ls (xpu r.1 [.int x3]) r.2 := e_vir dL_law_545 rfl rfl rfl rfl rfl rfl (Nat.le_of_ble_eq_true rfl) (Nat.le_of_ble_eq_true rfl) ht
theorem wL_law_548 : E_ d mL_law 548 ls (.int y :: .int x :: st) h = if x = y then E_ d mL_law 1989 ls st h else E_ d mL_law 551 ls st h := e_ieq dL_law_548 rfl rfl
theorem wL_law_551 : E_ d mL_law 551 ls st h = E_ d mL_law 552 ls (.int (nI 0) :: st) h := e_iconst dL_law_551 kiconst_0 rfl
theorem wL_law_552 (hx : x = 0 ∨ x = 1) : E_ d mL_law 552 ls [.int x] h = some (some (.int x), h) := e_rtZ dL_law_552 rfl hx
theorem wL_law_553 : E_ d mL_law 553 [s0, .val (.ref a), s2, s3] st h = E_ d mL_law 554 [s0, .val (.ref a), s2, s3] (.ref a :: st) h := e_go dL_law_553 rfl rfl
theorem wL_law_554 : E_ d mL_law 554 [.val (.ref a), s1, s2, s3] st h = E_ d mL_law 555 [.val (.ref a), s1, s2, s3] (.ref a :: st) h := e_go dL_law_554 rfl rfl
theorem wL_law_555 : E_ d mL_law 555 [s0, s1, s2, .val (.int x)] st h = E_ d mL_law 556 [s0, s1, s2, .val (.int x)] (.int x :: st) h := e_go dL_law_555 rfl rfl
theorem wL_law_556 : E_ d mL_law 556 ls st h = E_ d mL_law 557 ls (.int (nI 1) :: st) h := e_iconst dL_law_556 kiconst_1 rfl
theorem wL_law_557 : E_ d mL_law 557 ls (.int y :: .int x :: st) h = E_ d mL_law 558 ls (.int (x + y) :: st) h := e_go dL_law_557 rfl rfl
theorem wL_law_558 (ht : oT h a = 39) (hi : xix x (oN h a) = true) : E_ d mL_law 558 ls (.int x :: .ref a :: st) h = E_ d mL_law 559 ls (.int (oI h a x.toNatClampNeg) :: st) h := e_iald9 dL_law_558 rfl ht hi
theorem wL_law_559 : E_ d mL_law 559 [.val (.ref a), s1, s2, s3] st h = E_ d mL_law 560 [.val (.ref a), s1, s2, s3] (.ref a :: st) h := e_go dL_law_559 rfl rfl
theorem wL_law_560 : E_ d mL_law 560 [s0, s1, s2, .val (.int x)] st h = E_ d mL_law 561 [s0, s1, s2, .val (.int x)] (.int x :: st) h := e_go dL_law_560 rfl rfl
theorem wL_law_561 : E_ d mL_law 561 ls st h = E_ d mL_law 562 ls (.int (nI 2) :: st) h := e_iconst dL_law_561 kiconst_2 rfl
theorem wL_law_562 : E_ d mL_law 562 ls (.int y :: .int x :: st) h = E_ d mL_law 563 ls (.int (x + y) :: st) h := e_go dL_law_562 rfl rfl
theorem wL_law_563 (ht : oT h a = 39) (hi : xix x (oN h a) = true) : E_ d mL_law 563 ls (.int x :: .ref a :: st) h = E_ d mL_law 564 ls (.int (oI h a x.toNatClampNeg) :: st) h := e_iald9 dL_law_563 rfl ht hi
theorem wL_law_564 : E_ d mL_law 564 [.val (.ref a), s1, s2, s3] st h = E_ d mL_law 565 [.val (.ref a), s1, s2, s3] (.ref a :: st) h := e_go dL_law_564 rfl rfl
theorem wL_law_565 : E_ d mL_law 565 [s0, s1, s2, .val (.int x)] st h = E_ d mL_law 566 [s0, s1, s2, .val (.int x)] (.int x :: st) h := e_go dL_law_565 rfl rfl
theorem wL_law_566 : E_ d mL_law 566 ls st h = E_ d mL_law 567 ls (.int (nI 3) :: st) h := e_iconst dL_law_566 kiconst_3 rfl
theorem wL_law_567 : E_ d mL_law 567 ls (.int y :: .int x :: st) h = E_ d mL_law 568 ls (.int (x + y) :: st) h := e_go dL_law_567 rfl rfl
theorem wL_law_568 (ht : oT h a = 39) (hi : xix x (oN h a) = true) : E_ d mL_law 568 ls (.int x :: .ref a :: st) h = E_ d mL_law 569 ls (.int (oI h a x.toNatClampNeg) :: st) h := e_iald9 dL_law_568 rfl ht hi
theorem wL_law_569 : E_ d mL_law 569 [.val (.ref a), s1, s2, s3] st h = E_ d mL_law 570 [.val (.ref a), s1, s2, s3] (.ref a :: st) h := e_go dL_law_569 rfl rfl
theorem wL_law_570 : E_ d mL_law 570 [s0, s1, s2, .val (.int x)] st h = E_ d mL_law 571 [s0, s1, s2, .val (.int x)] (.int x :: st) h := e_go dL_law_570 rfl rfl
theorem wL_law_571 : E_ d mL_law 571 ls st h = E_ d mL_law 572 ls (.int (nI 4) :: st) h := e_iconst dL_law_571 kiconst_4 rfl
theorem wL_law_572 : E_ d mL_law 572 ls (.int y :: .int x :: st) h = E_ d mL_law 573 ls (.int (x + y) :: st) h := e_go dL_law_572 rfl rfl
theorem wL_law_573 (ht : oT h a = 39) (hi : xix x (oN h a) = true) : E_ d mL_law 573 ls (.int x :: .ref a :: st) h = E_ d mL_law 574 ls (.int (oI h a x.toNatClampNeg) :: st) h := e_iald9 dL_law_573 rfl ht hi
theorem wL_law_574 (ht : oT h a = 1) : E_ (d + 1) mL_law 574 ls [.int x4, .int x3, .int x2, .int x1, .ref a] h = (C_ d mX0_watch [.ref a, .int x1, .int x2, .int x3, .int x4] h).bind fun r => E_ (d + 1) mL_law 577 ls (xpu r.1 []) r.2 := e_vir dL_law_574 rfl rfl rfl rfl rfl rfl (Nat.le_of_ble_eq_true rfl) (Nat.le_of_ble_eq_true rfl) ht
theorem wL_law_577 : E_ d mL_law 577 [s0, s1, .val (.ref a), s3] st h = E_ d mL_law 578 [s0, s1, .val (.ref a), s3] (.ref a :: st) h := e_go dL_law_577 rfl rfl
theorem wL_law_578 : E_ d mL_law 578 [.val (.ref a), s1, s2, s3] st h = E_ d mL_law 579 [.val (.ref a), s1, s2, s3] (.ref a :: st) h := e_go dL_law_578 rfl rfl
theorem wL_law_579 : E_ d mL_law 579 [s0, s1, s2, .val (.int x)] st h = E_ d mL_law 580 [s0, s1, s2, .val (.int x)] (.int x :: st) h := e_go dL_law_579 rfl rfl
theorem wL_law_580 : E_ d mL_law 580 ls st h = E_ d mL_law 581 ls (.int (nI 1) :: st) h := e_iconst dL_law_580 kiconst_1 rfl
theorem wL_law_581 : E_ d mL_law 581 ls (.int y :: .int x :: st) h = E_ d mL_law 582 ls (.int (x + y) :: st) h := e_go dL_law_581 rfl rfl
theorem wL_law_582 (ht : oT h a = 39) (hi : xix x (oN h a) = true) : E_ d mL_law 582 ls (.int x :: .ref a :: st) h = E_ d mL_law 583 ls (.int (oI h a x.toNatClampNeg) :: st) h := e_iald9 dL_law_582 rfl ht hi
theorem wL_law_583 : E_ d mL_law 583 [.val (.ref a), s1, s2, s3] st h = E_ d mL_law 584 [.val (.ref a), s1, s2, s3] (.ref a :: st) h := e_go dL_law_583 rfl rfl
theorem wL_law_584 : E_ d mL_law 584 [s0, s1, s2, .val (.int x)] st h = E_ d mL_law 585 [s0, s1, s2, .val (.int x)] (.int x :: st) h := e_go dL_law_584 rfl rfl
theorem wL_law_585 : E_ d mL_law 585 ls st h = E_ d mL_law 586 ls (.int (nI 2) :: st) h := e_iconst dL_law_585 kiconst_2 rfl
theorem wL_law_586 : E_ d mL_law 586 ls (.int y :: .int x :: st) h = E_ d mL_law 587 ls (.int (x + y) :: st) h := e_go dL_law_586 rfl rfl
theorem wL_law_587 (ht : oT h a = 39) (hi : xix x (oN h a) = true) : E_ d mL_law 587 ls (.int x :: .ref a :: st) h = E_ d mL_law 588 ls (.int (oI h a x.toNatClampNeg) :: st) h := e_iald9 dL_law_587 rfl ht hi
theorem wL_law_588 : E_ d mL_law 588 [.val (.ref a), s1, s2, s3] st h = E_ d mL_law 589 [.val (.ref a), s1, s2, s3] (.ref a :: st) h := e_go dL_law_588 rfl rfl
theorem wL_law_589 : E_ d mL_law 589 [s0, s1, s2, .val (.int x)] st h = E_ d mL_law 590 [s0, s1, s2, .val (.int x)] (.int x :: st) h := e_go dL_law_589 rfl rfl
theorem wL_law_590 : E_ d mL_law 590 ls st h = E_ d mL_law 591 ls (.int (nI 3) :: st) h := e_iconst dL_law_590 kiconst_3 rfl
theorem wL_law_591 : E_ d mL_law 591 ls (.int y :: .int x :: st) h = E_ d mL_law 592 ls (.int (x + y) :: st) h := e_go dL_law_591 rfl rfl
theorem wL_law_592 (ht : oT h a = 39) (hi : xix x (oN h a) = true) : E_ d mL_law 592 ls (.int x :: .ref a :: st) h = E_ d mL_law 593 ls (.int (oI h a x.toNatClampNeg) :: st) h := e_iald9 dL_law_592 rfl ht hi
theorem wL_law_593 : E_ d mL_law 593 [.val (.ref a), s1, s2, s3] st h = E_ d mL_law 594 [.val (.ref a), s1, s2, s3] (.ref a :: st) h := e_go dL_law_593 rfl rfl
theorem wL_law_594 : E_ d mL_law 594 [s0, s1, s2, .val (.int x)] st h = E_ d mL_law 595 [s0, s1, s2, .val (.int x)] (.int x :: st) h := e_go dL_law_594 rfl rfl
theorem wL_law_595 : E_ d mL_law 595 ls st h = E_ d mL_law 596 ls (.int (nI 4) :: st) h := e_iconst dL_law_595 kiconst_4 rfl
theorem wL_law_596 : E_ d mL_law 596 ls (.int y :: .int x :: st) h = E_ d mL_law 597 ls (.int (x + y) :: st) h := e_go dL_law_596 rfl rfl
theorem wL_law_597 (ht : oT h a = 39) (hi : xix x (oN h a) = true) : E_ d mL_law 597 ls (.int x :: .ref a :: st) h = E_ d mL_law 598 ls (.int (oI h a x.toNatClampNeg) :: st) h := e_iald9 dL_law_597 rfl ht hi
theorem wL_law_598 (ht : oT h a = 7) : E_ (d + 1) mL_law 598 ls [.int x4, .int x3, .int x2, .int x1, .ref a, .int x5] h = (C_ d mX5_watch [.ref a, .int x1, .int x2, .int x3, .int x4] h).bind fun r => E_ (d + 1) mL_law 601 ls (xpu r.1 [.int x5]) r.2 := e_vir dL_law_598 rfl rfl rfl rfl rfl rfl (Nat.le_of_ble_eq_true rfl) (Nat.le_of_ble_eq_true rfl) ht
theorem wL_law_601 : E_ d mL_law 601 ls (.int y :: .int x :: st) h = if x = y then E_ d mL_law 1989 ls st h else E_ d mL_law 604 ls st h := e_ieq dL_law_601 rfl rfl
theorem wL_law_604 : E_ d mL_law 604 ls st h = E_ d mL_law 605 ls (.int (nI 0) :: st) h := e_iconst dL_law_604 kiconst_0 rfl
theorem wL_law_605 (hx : x = 0 ∨ x = 1) : E_ d mL_law 605 ls [.int x] h = some (some (.int x), h) := e_rtZ dL_law_605 rfl hx
theorem wL_law_606 : E_ d mL_law 606 [s0, .val (.ref a), s2, s3] st h = E_ d mL_law 607 [s0, .val (.ref a), s2, s3] (.ref a :: st) h := e_go dL_law_606 rfl rfl
theorem wL_law_607 : E_ d mL_law 607 [.val (.ref a), s1, s2, s3] st h = E_ d mL_law 608 [.val (.ref a), s1, s2, s3] (.ref a :: st) h := e_go dL_law_607 rfl rfl
theorem wL_law_608 : E_ d mL_law 608 [s0, s1, s2, .val (.int x)] st h = E_ d mL_law 609 [s0, s1, s2, .val (.int x)] (.int x :: st) h := e_go dL_law_608 rfl rfl
theorem wL_law_609 : E_ d mL_law 609 ls st h = E_ d mL_law 610 ls (.int (nI 1) :: st) h := e_iconst dL_law_609 kiconst_1 rfl
theorem wL_law_610 : E_ d mL_law 610 ls (.int y :: .int x :: st) h = E_ d mL_law 611 ls (.int (x + y) :: st) h := e_go dL_law_610 rfl rfl
theorem wL_law_611 (ht : oT h a = 39) (hi : xix x (oN h a) = true) : E_ d mL_law 611 ls (.int x :: .ref a :: st) h = E_ d mL_law 612 ls (.int (oI h a x.toNatClampNeg) :: st) h := e_iald9 dL_law_611 rfl ht hi
theorem wL_law_612 : E_ d mL_law 612 [.val (.ref a), s1, s2, s3] st h = E_ d mL_law 613 [.val (.ref a), s1, s2, s3] (.ref a :: st) h := e_go dL_law_612 rfl rfl
theorem wL_law_613 : E_ d mL_law 613 [s0, s1, s2, .val (.int x)] st h = E_ d mL_law 614 [s0, s1, s2, .val (.int x)] (.int x :: st) h := e_go dL_law_613 rfl rfl
theorem wL_law_614 : E_ d mL_law 614 ls st h = E_ d mL_law 615 ls (.int (nI 2) :: st) h := e_iconst dL_law_614 kiconst_2 rfl
theorem wL_law_615 : E_ d mL_law 615 ls (.int y :: .int x :: st) h = E_ d mL_law 616 ls (.int (x + y) :: st) h := e_go dL_law_615 rfl rfl
theorem wL_law_616 (ht : oT h a = 39) (hi : xix x (oN h a) = true) : E_ d mL_law 616 ls (.int x :: .ref a :: st) h = E_ d mL_law 617 ls (.int (oI h a x.toNatClampNeg) :: st) h := e_iald9 dL_law_616 rfl ht hi
theorem wL_law_617 (ht : oT h a = 1) : E_ (d + 1) mL_law 617 ls [.int x2, .int x1, .ref a] h = (C_ d mX0_stands [.ref a, .int x1, .int x2] h).bind fun r => E_ (d + 1) mL_law 620 ls (xpu r.1 []) r.2 := e_vir dL_law_617 rfl rfl rfl rfl rfl rfl (Nat.le_of_ble_eq_true rfl) (Nat.le_of_ble_eq_true rfl) ht
theorem wL_law_620 : E_ d mL_law 620 [s0, s1, .val (.ref a), s3] st h = E_ d mL_law 621 [s0, s1, .val (.ref a), s3] (.ref a :: st) h := e_go dL_law_620 rfl rfl
theorem wL_law_621 : E_ d mL_law 621 [.val (.ref a), s1, s2, s3] st h = E_ d mL_law 622 [.val (.ref a), s1, s2, s3] (.ref a :: st) h := e_go dL_law_621 rfl rfl
theorem wL_law_622 : E_ d mL_law 622 [s0, s1, s2, .val (.int x)] st h = E_ d mL_law 623 [s0, s1, s2, .val (.int x)] (.int x :: st) h := e_go dL_law_622 rfl rfl
theorem wL_law_623 : E_ d mL_law 623 ls st h = E_ d mL_law 624 ls (.int (nI 1) :: st) h := e_iconst dL_law_623 kiconst_1 rfl
theorem wL_law_624 : E_ d mL_law 624 ls (.int y :: .int x :: st) h = E_ d mL_law 625 ls (.int (x + y) :: st) h := e_go dL_law_624 rfl rfl
theorem wL_law_625 (ht : oT h a = 39) (hi : xix x (oN h a) = true) : E_ d mL_law 625 ls (.int x :: .ref a :: st) h = E_ d mL_law 626 ls (.int (oI h a x.toNatClampNeg) :: st) h := e_iald9 dL_law_625 rfl ht hi
theorem wL_law_626 : E_ d mL_law 626 [.val (.ref a), s1, s2, s3] st h = E_ d mL_law 627 [.val (.ref a), s1, s2, s3] (.ref a :: st) h := e_go dL_law_626 rfl rfl
theorem wL_law_627 : E_ d mL_law 627 [s0, s1, s2, .val (.int x)] st h = E_ d mL_law 628 [s0, s1, s2, .val (.int x)] (.int x :: st) h := e_go dL_law_627 rfl rfl
theorem wL_law_628 : E_ d mL_law 628 ls st h = E_ d mL_law 629 ls (.int (nI 2) :: st) h := e_iconst dL_law_628 kiconst_2 rfl
theorem wL_law_629 : E_ d mL_law 629 ls (.int y :: .int x :: st) h = E_ d mL_law 630 ls (.int (x + y) :: st) h := e_go dL_law_629 rfl rfl
theorem wL_law_630 (ht : oT h a = 39) (hi : xix x (oN h a) = true) : E_ d mL_law 630 ls (.int x :: .ref a :: st) h = E_ d mL_law 631 ls (.int (oI h a x.toNatClampNeg) :: st) h := e_iald9 dL_law_630 rfl ht hi
theorem wL_law_631 (ht : oT h a = 7) : E_ (d + 1) mL_law 631 ls [.int x2, .int x1, .ref a, .int x3] h = (C_ d mX5_stands [.ref a, .int x1, .int x2] h).bind fun r => E_ (d + 1) mL_law 634 ls (xpu r.1 [.int x3]) r.2 := e_vir dL_law_631 rfl rfl rfl rfl rfl rfl (Nat.le_of_ble_eq_true rfl) (Nat.le_of_ble_eq_true rfl) ht
theorem wL_law_634 : E_ d mL_law 634 ls (.int y :: .int x :: st) h = if x = y then E_ d mL_law 1989 ls st h else E_ d mL_law 637 ls st h := e_ieq dL_law_634 rfl rfl
theorem wL_law_637 : E_ d mL_law 637 ls st h = E_ d mL_law 638 ls (.int (nI 0) :: st) h := e_iconst dL_law_637 kiconst_0 rfl
theorem wL_law_638 (hx : x = 0 ∨ x = 1) : E_ d mL_law 638 ls [.int x] h = some (some (.int x), h) := e_rtZ dL_law_638 rfl hx
theorem wL_law_639 : E_ d mL_law 639 [s0, .val (.ref a), s2, s3] st h = E_ d mL_law 640 [s0, .val (.ref a), s2, s3] (.ref a :: st) h := e_go dL_law_639 rfl rfl
theorem wL_law_640 : E_ d mL_law 640 [.val (.ref a), s1, s2, s3] st h = E_ d mL_law 641 [.val (.ref a), s1, s2, s3] (.ref a :: st) h := e_go dL_law_640 rfl rfl
theorem wL_law_641 : E_ d mL_law 641 [s0, s1, s2, .val (.int x)] st h = E_ d mL_law 642 [s0, s1, s2, .val (.int x)] (.int x :: st) h := e_go dL_law_641 rfl rfl
theorem wL_law_642 : E_ d mL_law 642 ls st h = E_ d mL_law 643 ls (.int (nI 1) :: st) h := e_iconst dL_law_642 kiconst_1 rfl
theorem wL_law_643 : E_ d mL_law 643 ls (.int y :: .int x :: st) h = E_ d mL_law 644 ls (.int (x + y) :: st) h := e_go dL_law_643 rfl rfl
theorem wL_law_644 (ht : oT h a = 39) (hi : xix x (oN h a) = true) : E_ d mL_law 644 ls (.int x :: .ref a :: st) h = E_ d mL_law 645 ls (.int (oI h a x.toNatClampNeg) :: st) h := e_iald9 dL_law_644 rfl ht hi
theorem wL_law_645 : E_ d mL_law 645 [.val (.ref a), s1, s2, s3] st h = E_ d mL_law 646 [.val (.ref a), s1, s2, s3] (.ref a :: st) h := e_go dL_law_645 rfl rfl
theorem wL_law_646 : E_ d mL_law 646 [s0, s1, s2, .val (.int x)] st h = E_ d mL_law 647 [s0, s1, s2, .val (.int x)] (.int x :: st) h := e_go dL_law_646 rfl rfl
theorem wL_law_647 : E_ d mL_law 647 ls st h = E_ d mL_law 648 ls (.int (nI 2) :: st) h := e_iconst dL_law_647 kiconst_2 rfl
theorem wL_law_648 : E_ d mL_law 648 ls (.int y :: .int x :: st) h = E_ d mL_law 649 ls (.int (x + y) :: st) h := e_go dL_law_648 rfl rfl
theorem wL_law_649 (ht : oT h a = 39) (hi : xix x (oN h a) = true) : E_ d mL_law 649 ls (.int x :: .ref a :: st) h = E_ d mL_law 650 ls (.int (oI h a x.toNatClampNeg) :: st) h := e_iald9 dL_law_649 rfl ht hi
theorem wL_law_650 : E_ d mL_law 650 [.val (.ref a), s1, s2, s3] st h = E_ d mL_law 651 [.val (.ref a), s1, s2, s3] (.ref a :: st) h := e_go dL_law_650 rfl rfl
theorem wL_law_651 : E_ d mL_law 651 [s0, s1, s2, .val (.int x)] st h = E_ d mL_law 652 [s0, s1, s2, .val (.int x)] (.int x :: st) h := e_go dL_law_651 rfl rfl
theorem wL_law_652 : E_ d mL_law 652 ls st h = E_ d mL_law 653 ls (.int (nI 3) :: st) h := e_iconst dL_law_652 kiconst_3 rfl
theorem wL_law_653 : E_ d mL_law 653 ls (.int y :: .int x :: st) h = E_ d mL_law 654 ls (.int (x + y) :: st) h := e_go dL_law_653 rfl rfl
theorem wL_law_654 (ht : oT h a = 39) (hi : xix x (oN h a) = true) : E_ d mL_law 654 ls (.int x :: .ref a :: st) h = E_ d mL_law 655 ls (.int (oI h a x.toNatClampNeg) :: st) h := e_iald9 dL_law_654 rfl ht hi
theorem wL_law_655 (ht : oT h a = 1) : E_ (d + 1) mL_law 655 ls [.int x3, .int x2, .int x1, .ref a] h = (C_ d mX0_tries [.ref a, .int x1, .int x2, .int x3] h).bind fun r => E_ (d + 1) mL_law 658 ls (xpu r.1 []) r.2 := e_vir dL_law_655 rfl rfl rfl rfl rfl rfl (Nat.le_of_ble_eq_true rfl) (Nat.le_of_ble_eq_true rfl) ht
theorem wL_law_658 : E_ d mL_law 658 [s0, s1, .val (.ref a), s3] st h = E_ d mL_law 659 [s0, s1, .val (.ref a), s3] (.ref a :: st) h := e_go dL_law_658 rfl rfl
theorem wL_law_659 : E_ d mL_law 659 [.val (.ref a), s1, s2, s3] st h = E_ d mL_law 660 [.val (.ref a), s1, s2, s3] (.ref a :: st) h := e_go dL_law_659 rfl rfl
theorem wL_law_660 : E_ d mL_law 660 [s0, s1, s2, .val (.int x)] st h = E_ d mL_law 661 [s0, s1, s2, .val (.int x)] (.int x :: st) h := e_go dL_law_660 rfl rfl
theorem wL_law_661 : E_ d mL_law 661 ls st h = E_ d mL_law 662 ls (.int (nI 1) :: st) h := e_iconst dL_law_661 kiconst_1 rfl
theorem wL_law_662 : E_ d mL_law 662 ls (.int y :: .int x :: st) h = E_ d mL_law 663 ls (.int (x + y) :: st) h := e_go dL_law_662 rfl rfl
theorem wL_law_663 (ht : oT h a = 39) (hi : xix x (oN h a) = true) : E_ d mL_law 663 ls (.int x :: .ref a :: st) h = E_ d mL_law 664 ls (.int (oI h a x.toNatClampNeg) :: st) h := e_iald9 dL_law_663 rfl ht hi
theorem wL_law_664 : E_ d mL_law 664 [.val (.ref a), s1, s2, s3] st h = E_ d mL_law 665 [.val (.ref a), s1, s2, s3] (.ref a :: st) h := e_go dL_law_664 rfl rfl
theorem wL_law_665 : E_ d mL_law 665 [s0, s1, s2, .val (.int x)] st h = E_ d mL_law 666 [s0, s1, s2, .val (.int x)] (.int x :: st) h := e_go dL_law_665 rfl rfl
theorem wL_law_666 : E_ d mL_law 666 ls st h = E_ d mL_law 667 ls (.int (nI 2) :: st) h := e_iconst dL_law_666 kiconst_2 rfl
theorem wL_law_667 : E_ d mL_law 667 ls (.int y :: .int x :: st) h = E_ d mL_law 668 ls (.int (x + y) :: st) h := e_go dL_law_667 rfl rfl
theorem wL_law_668 (ht : oT h a = 39) (hi : xix x (oN h a) = true) : E_ d mL_law 668 ls (.int x :: .ref a :: st) h = E_ d mL_law 669 ls (.int (oI h a x.toNatClampNeg) :: st) h := e_iald9 dL_law_668 rfl ht hi
theorem wL_law_669 : E_ d mL_law 669 [.val (.ref a), s1, s2, s3] st h = E_ d mL_law 670 [.val (.ref a), s1, s2, s3] (.ref a :: st) h := e_go dL_law_669 rfl rfl
theorem wL_law_670 : E_ d mL_law 670 [s0, s1, s2, .val (.int x)] st h = E_ d mL_law 671 [s0, s1, s2, .val (.int x)] (.int x :: st) h := e_go dL_law_670 rfl rfl
theorem wL_law_671 : E_ d mL_law 671 ls st h = E_ d mL_law 672 ls (.int (nI 3) :: st) h := e_iconst dL_law_671 kiconst_3 rfl
theorem wL_law_672 : E_ d mL_law 672 ls (.int y :: .int x :: st) h = E_ d mL_law 673 ls (.int (x + y) :: st) h := e_go dL_law_672 rfl rfl
theorem wL_law_673 (ht : oT h a = 39) (hi : xix x (oN h a) = true) : E_ d mL_law 673 ls (.int x :: .ref a :: st) h = E_ d mL_law 674 ls (.int (oI h a x.toNatClampNeg) :: st) h := e_iald9 dL_law_673 rfl ht hi
theorem wL_law_674 (ht : oT h a = 7) : E_ (d + 1) mL_law 674 ls [.int x3, .int x2, .int x1, .ref a, .int x4] h = (C_ d mX5_tries [.ref a, .int x1, .int x2, .int x3] h).bind fun r => E_ (d + 1) mL_law 677 ls (xpu r.1 [.int x4]) r.2 := e_vir dL_law_674 rfl rfl rfl rfl rfl rfl (Nat.le_of_ble_eq_true rfl) (Nat.le_of_ble_eq_true rfl) ht
theorem wL_law_677 : E_ d mL_law 677 ls (.int y :: .int x :: st) h = if x = y then E_ d mL_law 1989 ls st h else E_ d mL_law 680 ls st h := e_ieq dL_law_677 rfl rfl
theorem wL_law_680 : E_ d mL_law 680 ls st h = E_ d mL_law 681 ls (.int (nI 0) :: st) h := e_iconst dL_law_680 kiconst_0 rfl
theorem wL_law_681 (hx : x = 0 ∨ x = 1) : E_ d mL_law 681 ls [.int x] h = some (some (.int x), h) := e_rtZ dL_law_681 rfl hx
theorem wL_law_682 : E_ d mL_law 682 [s0, .val (.ref a), s2, s3] st h = E_ d mL_law 683 [s0, .val (.ref a), s2, s3] (.ref a :: st) h := e_go dL_law_682 rfl rfl
theorem wL_law_683 : E_ d mL_law 683 [.val (.ref a), s1, s2, s3] st h = E_ d mL_law 684 [.val (.ref a), s1, s2, s3] (.ref a :: st) h := e_go dL_law_683 rfl rfl
theorem wL_law_684 : E_ d mL_law 684 [s0, s1, s2, .val (.int x)] st h = E_ d mL_law 685 [s0, s1, s2, .val (.int x)] (.int x :: st) h := e_go dL_law_684 rfl rfl
theorem wL_law_685 : E_ d mL_law 685 ls st h = E_ d mL_law 686 ls (.int (nI 1) :: st) h := e_iconst dL_law_685 kiconst_1 rfl
theorem wL_law_686 : E_ d mL_law 686 ls (.int y :: .int x :: st) h = E_ d mL_law 687 ls (.int (x + y) :: st) h := e_go dL_law_686 rfl rfl
theorem wL_law_687 (ht : oT h a = 39) (hi : xix x (oN h a) = true) : E_ d mL_law 687 ls (.int x :: .ref a :: st) h = E_ d mL_law 688 ls (.int (oI h a x.toNatClampNeg) :: st) h := e_iald9 dL_law_687 rfl ht hi
theorem wL_law_688 (ht : oT h a = 1) : E_ (d + 1) mL_law 688 ls [.int x1, .ref a] h = (C_ d mX0_odds [.ref a, .int x1] h).bind fun r => E_ (d + 1) mL_law 691 ls (xpu r.1 []) r.2 := e_vir dL_law_688 rfl rfl rfl rfl rfl rfl (Nat.le_of_ble_eq_true rfl) (Nat.le_of_ble_eq_true rfl) ht
theorem wL_law_691 : E_ d mL_law 691 [s0, s1, .val (.ref a), s3] st h = E_ d mL_law 692 [s0, s1, .val (.ref a), s3] (.ref a :: st) h := e_go dL_law_691 rfl rfl
theorem wL_law_692 : E_ d mL_law 692 [.val (.ref a), s1, s2, s3] st h = E_ d mL_law 693 [.val (.ref a), s1, s2, s3] (.ref a :: st) h := e_go dL_law_692 rfl rfl
theorem wL_law_693 : E_ d mL_law 693 [s0, s1, s2, .val (.int x)] st h = E_ d mL_law 694 [s0, s1, s2, .val (.int x)] (.int x :: st) h := e_go dL_law_693 rfl rfl
theorem wL_law_694 : E_ d mL_law 694 ls st h = E_ d mL_law 695 ls (.int (nI 1) :: st) h := e_iconst dL_law_694 kiconst_1 rfl
theorem wL_law_695 : E_ d mL_law 695 ls (.int y :: .int x :: st) h = E_ d mL_law 696 ls (.int (x + y) :: st) h := e_go dL_law_695 rfl rfl
theorem wL_law_696 (ht : oT h a = 39) (hi : xix x (oN h a) = true) : E_ d mL_law 696 ls (.int x :: .ref a :: st) h = E_ d mL_law 697 ls (.int (oI h a x.toNatClampNeg) :: st) h := e_iald9 dL_law_696 rfl ht hi
theorem wL_law_697 (ht : oT h a = 7) : E_ (d + 1) mL_law 697 ls [.int x1, .ref a, .long u1] h = (C_ d mX5_odds [.ref a, .int x1] h).bind fun r => E_ (d + 1) mL_law 700 ls (xpu r.1 [.long u1]) r.2 := e_vir dL_law_697 rfl rfl rfl rfl rfl rfl (Nat.le_of_ble_eq_true rfl) (Nat.le_of_ble_eq_true rfl) ht
theorem wL_law_700 : E_ d mL_law 700 ls (.long v :: .long u :: st) h = E_ d mL_law 701 ls (.int (lg_cmp u v) :: st) h := e_go dL_law_700 rfl rfl
theorem wL_law_701 : E_ d mL_law 701 ls (.int x :: st) h = if x = 0 then E_ d mL_law 1989 ls st h else E_ d mL_law 704 ls st h := e_zeq dL_law_701 rfl rfl
theorem wL_law_704 : E_ d mL_law 704 ls st h = E_ d mL_law 705 ls (.int (nI 0) :: st) h := e_iconst dL_law_704 kiconst_0 rfl
theorem wL_law_705 (hx : x = 0 ∨ x = 1) : E_ d mL_law 705 ls [.int x] h = some (some (.int x), h) := e_rtZ dL_law_705 rfl hx
theorem wL_law_706 : E_ d mL_law 706 [s0, .val (.ref a), s2, s3] st h = E_ d mL_law 707 [s0, .val (.ref a), s2, s3] (.ref a :: st) h := e_go dL_law_706 rfl rfl
theorem wL_law_707 : E_ d mL_law 707 [.val (.ref a), s1, s2, s3] st h = E_ d mL_law 708 [.val (.ref a), s1, s2, s3] (.ref a :: st) h := e_go dL_law_707 rfl rfl
theorem wL_law_708 : E_ d mL_law 708 [s0, s1, s2, .val (.int x)] st h = E_ d mL_law 709 [s0, s1, s2, .val (.int x)] (.int x :: st) h := e_go dL_law_708 rfl rfl
theorem wL_law_709 : E_ d mL_law 709 ls st h = E_ d mL_law 710 ls (.int (nI 1) :: st) h := e_iconst dL_law_709 kiconst_1 rfl
theorem wL_law_710 : E_ d mL_law 710 ls (.int y :: .int x :: st) h = E_ d mL_law 711 ls (.int (x + y) :: st) h := e_go dL_law_710 rfl rfl
theorem wL_law_711 (ht : oT h a = 39) (hi : xix x (oN h a) = true) : E_ d mL_law 711 ls (.int x :: .ref a :: st) h = E_ d mL_law 712 ls (.int (oI h a x.toNatClampNeg) :: st) h := e_iald9 dL_law_711 rfl ht hi
theorem wL_law_712 (ht : oT h a = 1) : E_ (d + 1) mL_law 712 ls [.int x1, .ref a] h = (C_ d mX0_helps [.ref a, .int x1] h).bind fun r => E_ (d + 1) mL_law 715 ls (xpu r.1 []) r.2 := e_vir dL_law_712 rfl rfl rfl rfl rfl rfl (Nat.le_of_ble_eq_true rfl) (Nat.le_of_ble_eq_true rfl) ht
theorem wL_law_715 : E_ d mL_law 715 [s0, s1, .val (.ref a), s3] st h = E_ d mL_law 716 [s0, s1, .val (.ref a), s3] (.ref a :: st) h := e_go dL_law_715 rfl rfl
theorem wL_law_716 : E_ d mL_law 716 [.val (.ref a), s1, s2, s3] st h = E_ d mL_law 717 [.val (.ref a), s1, s2, s3] (.ref a :: st) h := e_go dL_law_716 rfl rfl
theorem wL_law_717 : E_ d mL_law 717 [s0, s1, s2, .val (.int x)] st h = E_ d mL_law 718 [s0, s1, s2, .val (.int x)] (.int x :: st) h := e_go dL_law_717 rfl rfl
theorem wL_law_718 : E_ d mL_law 718 ls st h = E_ d mL_law 719 ls (.int (nI 1) :: st) h := e_iconst dL_law_718 kiconst_1 rfl
theorem wL_law_719 : E_ d mL_law 719 ls (.int y :: .int x :: st) h = E_ d mL_law 720 ls (.int (x + y) :: st) h := e_go dL_law_719 rfl rfl
theorem wL_law_720 (ht : oT h a = 39) (hi : xix x (oN h a) = true) : E_ d mL_law 720 ls (.int x :: .ref a :: st) h = E_ d mL_law 721 ls (.int (oI h a x.toNatClampNeg) :: st) h := e_iald9 dL_law_720 rfl ht hi
theorem wL_law_721 (ht : oT h a = 7) : E_ (d + 1) mL_law 721 ls [.int x1, .ref a, .long u1] h = (C_ d mX5_helps [.ref a, .int x1] h).bind fun r => E_ (d + 1) mL_law 724 ls (xpu r.1 [.long u1]) r.2 := e_vir dL_law_721 rfl rfl rfl rfl rfl rfl (Nat.le_of_ble_eq_true rfl) (Nat.le_of_ble_eq_true rfl) ht
theorem wL_law_724 : E_ d mL_law 724 ls (.long v :: .long u :: st) h = E_ d mL_law 725 ls (.int (lg_cmp u v) :: st) h := e_go dL_law_724 rfl rfl
theorem wL_law_725 : E_ d mL_law 725 ls (.int x :: st) h = if x = 0 then E_ d mL_law 1989 ls st h else E_ d mL_law 728 ls st h := e_zeq dL_law_725 rfl rfl
theorem wL_law_728 : E_ d mL_law 728 ls st h = E_ d mL_law 729 ls (.int (nI 0) :: st) h := e_iconst dL_law_728 kiconst_0 rfl
theorem wL_law_729 (hx : x = 0 ∨ x = 1) : E_ d mL_law 729 ls [.int x] h = some (some (.int x), h) := e_rtZ dL_law_729 rfl hx
theorem wL_law_730 : E_ d mL_law 730 [s0, .val (.ref a), s2, s3] st h = E_ d mL_law 731 [s0, .val (.ref a), s2, s3] (.ref a :: st) h := e_go dL_law_730 rfl rfl
theorem wL_law_731 : E_ d mL_law 731 [.val (.ref a), s1, s2, s3] st h = E_ d mL_law 732 [.val (.ref a), s1, s2, s3] (.ref a :: st) h := e_go dL_law_731 rfl rfl
theorem wL_law_732 : E_ d mL_law 732 [s0, s1, s2, .val (.int x)] st h = E_ d mL_law 733 [s0, s1, s2, .val (.int x)] (.int x :: st) h := e_go dL_law_732 rfl rfl
theorem wL_law_733 : E_ d mL_law 733 ls st h = E_ d mL_law 734 ls (.int (nI 1) :: st) h := e_iconst dL_law_733 kiconst_1 rfl
theorem wL_law_734 : E_ d mL_law 734 ls (.int y :: .int x :: st) h = E_ d mL_law 735 ls (.int (x + y) :: st) h := e_go dL_law_734 rfl rfl
theorem wL_law_735 (ht : oT h a = 39) (hi : xix x (oN h a) = true) : E_ d mL_law 735 ls (.int x :: .ref a :: st) h = E_ d mL_law 736 ls (.int (oI h a x.toNatClampNeg) :: st) h := e_iald9 dL_law_735 rfl ht hi
theorem wL_law_736 (ht : oT h a = 1) : E_ (d + 1) mL_law 736 ls [.int x1, .ref a] h = (C_ d mX0_best [.ref a, .int x1] h).bind fun r => E_ (d + 1) mL_law 739 ls (xpu r.1 []) r.2 := e_vir dL_law_736 rfl rfl rfl rfl rfl rfl (Nat.le_of_ble_eq_true rfl) (Nat.le_of_ble_eq_true rfl) ht
theorem wL_law_739 : E_ d mL_law 739 [s0, s1, .val (.ref a), s3] st h = E_ d mL_law 740 [s0, s1, .val (.ref a), s3] (.ref a :: st) h := e_go dL_law_739 rfl rfl
theorem wL_law_740 : E_ d mL_law 740 [.val (.ref a), s1, s2, s3] st h = E_ d mL_law 741 [.val (.ref a), s1, s2, s3] (.ref a :: st) h := e_go dL_law_740 rfl rfl
theorem wL_law_741 : E_ d mL_law 741 [s0, s1, s2, .val (.int x)] st h = E_ d mL_law 742 [s0, s1, s2, .val (.int x)] (.int x :: st) h := e_go dL_law_741 rfl rfl
theorem wL_law_742 : E_ d mL_law 742 ls st h = E_ d mL_law 743 ls (.int (nI 1) :: st) h := e_iconst dL_law_742 kiconst_1 rfl
theorem wL_law_743 : E_ d mL_law 743 ls (.int y :: .int x :: st) h = E_ d mL_law 744 ls (.int (x + y) :: st) h := e_go dL_law_743 rfl rfl
theorem wL_law_744 (ht : oT h a = 39) (hi : xix x (oN h a) = true) : E_ d mL_law 744 ls (.int x :: .ref a :: st) h = E_ d mL_law 745 ls (.int (oI h a x.toNatClampNeg) :: st) h := e_iald9 dL_law_744 rfl ht hi
theorem wL_law_745 (ht : oT h a = 7) : E_ (d + 1) mL_law 745 ls [.int x1, .ref a, .int x2] h = (C_ d mX5_best [.ref a, .int x1] h).bind fun r => E_ (d + 1) mL_law 748 ls (xpu r.1 [.int x2]) r.2 := e_vir dL_law_745 rfl rfl rfl rfl rfl rfl (Nat.le_of_ble_eq_true rfl) (Nat.le_of_ble_eq_true rfl) ht
theorem wL_law_748 : E_ d mL_law 748 ls (.int y :: .int x :: st) h = if x = y then E_ d mL_law 1989 ls st h else E_ d mL_law 751 ls st h := e_ieq dL_law_748 rfl rfl
theorem wL_law_751 : E_ d mL_law 751 ls st h = E_ d mL_law 752 ls (.int (nI 0) :: st) h := e_iconst dL_law_751 kiconst_0 rfl
theorem wL_law_752 (hx : x = 0 ∨ x = 1) : E_ d mL_law 752 ls [.int x] h = some (some (.int x), h) := e_rtZ dL_law_752 rfl hx
theorem wL_law_753 : E_ d mL_law 753 [s0, .val (.ref a), s2, s3] st h = E_ d mL_law 754 [s0, .val (.ref a), s2, s3] (.ref a :: st) h := e_go dL_law_753 rfl rfl
theorem wL_law_754 : E_ d mL_law 754 [.val (.ref a), s1, s2, s3] st h = E_ d mL_law 755 [.val (.ref a), s1, s2, s3] (.ref a :: st) h := e_go dL_law_754 rfl rfl
theorem wL_law_755 : E_ d mL_law 755 [s0, s1, s2, .val (.int x)] st h = E_ d mL_law 756 [s0, s1, s2, .val (.int x)] (.int x :: st) h := e_go dL_law_755 rfl rfl
theorem wL_law_756 : E_ d mL_law 756 ls st h = E_ d mL_law 757 ls (.int (nI 1) :: st) h := e_iconst dL_law_756 kiconst_1 rfl
theorem wL_law_757 : E_ d mL_law 757 ls (.int y :: .int x :: st) h = E_ d mL_law 758 ls (.int (x + y) :: st) h := e_go dL_law_757 rfl rfl
theorem wL_law_758 (ht : oT h a = 39) (hi : xix x (oN h a) = true) : E_ d mL_law 758 ls (.int x :: .ref a :: st) h = E_ d mL_law 759 ls (.int (oI h a x.toNatClampNeg) :: st) h := e_iald9 dL_law_758 rfl ht hi
theorem wL_law_759 (ht : oT h a = 1) : E_ (d + 1) mL_law 759 ls [.int x1, .ref a] h = (C_ d mX0_back [.ref a, .int x1] h).bind fun r => E_ (d + 1) mL_law 762 ls (xpu r.1 []) r.2 := e_vir dL_law_759 rfl rfl rfl rfl rfl rfl (Nat.le_of_ble_eq_true rfl) (Nat.le_of_ble_eq_true rfl) ht
theorem wL_law_762 : E_ d mL_law 762 [s0, s1, .val (.ref a), s3] st h = E_ d mL_law 763 [s0, s1, .val (.ref a), s3] (.ref a :: st) h := e_go dL_law_762 rfl rfl
theorem wL_law_763 : E_ d mL_law 763 [.val (.ref a), s1, s2, s3] st h = E_ d mL_law 764 [.val (.ref a), s1, s2, s3] (.ref a :: st) h := e_go dL_law_763 rfl rfl
theorem wL_law_764 : E_ d mL_law 764 [s0, s1, s2, .val (.int x)] st h = E_ d mL_law 765 [s0, s1, s2, .val (.int x)] (.int x :: st) h := e_go dL_law_764 rfl rfl
theorem wL_law_765 : E_ d mL_law 765 ls st h = E_ d mL_law 766 ls (.int (nI 1) :: st) h := e_iconst dL_law_765 kiconst_1 rfl
theorem wL_law_766 : E_ d mL_law 766 ls (.int y :: .int x :: st) h = E_ d mL_law 767 ls (.int (x + y) :: st) h := e_go dL_law_766 rfl rfl
theorem wL_law_767 (ht : oT h a = 39) (hi : xix x (oN h a) = true) : E_ d mL_law 767 ls (.int x :: .ref a :: st) h = E_ d mL_law 768 ls (.int (oI h a x.toNatClampNeg) :: st) h := e_iald9 dL_law_767 rfl ht hi
theorem wL_law_768 (ht : oT h a = 7) : E_ (d + 1) mL_law 768 ls [.int x1, .ref a, .int x2] h = (C_ d mX5_back [.ref a, .int x1] h).bind fun r => E_ (d + 1) mL_law 771 ls (xpu r.1 [.int x2]) r.2 := e_vir dL_law_768 rfl rfl rfl rfl rfl rfl (Nat.le_of_ble_eq_true rfl) (Nat.le_of_ble_eq_true rfl) ht
theorem wL_law_771 : E_ d mL_law 771 ls (.int y :: .int x :: st) h = if x = y then E_ d mL_law 1989 ls st h else E_ d mL_law 774 ls st h := e_ieq dL_law_771 rfl rfl
theorem wL_law_774 : E_ d mL_law 774 ls st h = E_ d mL_law 775 ls (.int (nI 0) :: st) h := e_iconst dL_law_774 kiconst_0 rfl
theorem wL_law_775 (hx : x = 0 ∨ x = 1) : E_ d mL_law 775 ls [.int x] h = some (some (.int x), h) := e_rtZ dL_law_775 rfl hx
theorem wL_law_776 : E_ d mL_law 776 [s0, .val (.ref a), s2, s3] st h = E_ d mL_law 777 [s0, .val (.ref a), s2, s3] (.ref a :: st) h := e_go dL_law_776 rfl rfl
theorem wL_law_777 : E_ d mL_law 777 [.val (.ref a), s1, s2, s3] st h = E_ d mL_law 778 [.val (.ref a), s1, s2, s3] (.ref a :: st) h := e_go dL_law_777 rfl rfl
theorem wL_law_778 : E_ d mL_law 778 [s0, s1, s2, .val (.int x)] st h = E_ d mL_law 779 [s0, s1, s2, .val (.int x)] (.int x :: st) h := e_go dL_law_778 rfl rfl
theorem wL_law_779 : E_ d mL_law 779 ls st h = E_ d mL_law 780 ls (.int (nI 1) :: st) h := e_iconst dL_law_779 kiconst_1 rfl
theorem wL_law_780 : E_ d mL_law 780 ls (.int y :: .int x :: st) h = E_ d mL_law 781 ls (.int (x + y) :: st) h := e_go dL_law_780 rfl rfl
theorem wL_law_781 (ht : oT h a = 39) (hi : xix x (oN h a) = true) : E_ d mL_law 781 ls (.int x :: .ref a :: st) h = E_ d mL_law 782 ls (.int (oI h a x.toNatClampNeg) :: st) h := e_iald9 dL_law_781 rfl ht hi
theorem wL_law_782 (ht : oT h a = 1) : E_ (d + 1) mL_law 782 ls [.int x1, .ref a] h = (C_ d mX0_wise [.ref a, .int x1] h).bind fun r => E_ (d + 1) mL_law 785 ls (xpu r.1 []) r.2 := e_vir dL_law_782 rfl rfl rfl rfl rfl rfl (Nat.le_of_ble_eq_true rfl) (Nat.le_of_ble_eq_true rfl) ht
theorem wL_law_785 : E_ d mL_law 785 [s0, s1, .val (.ref a), s3] st h = E_ d mL_law 786 [s0, s1, .val (.ref a), s3] (.ref a :: st) h := e_go dL_law_785 rfl rfl
theorem wL_law_786 : E_ d mL_law 786 [.val (.ref a), s1, s2, s3] st h = E_ d mL_law 787 [.val (.ref a), s1, s2, s3] (.ref a :: st) h := e_go dL_law_786 rfl rfl
theorem wL_law_787 : E_ d mL_law 787 [s0, s1, s2, .val (.int x)] st h = E_ d mL_law 788 [s0, s1, s2, .val (.int x)] (.int x :: st) h := e_go dL_law_787 rfl rfl
theorem wL_law_788 : E_ d mL_law 788 ls st h = E_ d mL_law 789 ls (.int (nI 1) :: st) h := e_iconst dL_law_788 kiconst_1 rfl
theorem wL_law_789 : E_ d mL_law 789 ls (.int y :: .int x :: st) h = E_ d mL_law 790 ls (.int (x + y) :: st) h := e_go dL_law_789 rfl rfl
theorem wL_law_790 (ht : oT h a = 39) (hi : xix x (oN h a) = true) : E_ d mL_law 790 ls (.int x :: .ref a :: st) h = E_ d mL_law 791 ls (.int (oI h a x.toNatClampNeg) :: st) h := e_iald9 dL_law_790 rfl ht hi
theorem wL_law_791 (ht : oT h a = 7) : E_ (d + 1) mL_law 791 ls [.int x1, .ref a, .int x2] h = (C_ d mX5_wise [.ref a, .int x1] h).bind fun r => E_ (d + 1) mL_law 794 ls (xpu r.1 [.int x2]) r.2 := e_vir dL_law_791 rfl rfl rfl rfl rfl rfl (Nat.le_of_ble_eq_true rfl) (Nat.le_of_ble_eq_true rfl) ht
theorem wL_law_794 : E_ d mL_law 794 ls (.int y :: .int x :: st) h = if x = y then E_ d mL_law 1989 ls st h else E_ d mL_law 797 ls st h := e_ieq dL_law_794 rfl rfl
theorem wL_law_797 : E_ d mL_law 797 ls st h = E_ d mL_law 798 ls (.int (nI 0) :: st) h := e_iconst dL_law_797 kiconst_0 rfl
theorem wL_law_798 (hx : x = 0 ∨ x = 1) : E_ d mL_law 798 ls [.int x] h = some (some (.int x), h) := e_rtZ dL_law_798 rfl hx
theorem wL_law_799 : E_ d mL_law 799 [s0, .val (.ref a), s2, s3] st h = E_ d mL_law 800 [s0, .val (.ref a), s2, s3] (.ref a :: st) h := e_go dL_law_799 rfl rfl
theorem wL_law_800 : E_ d mL_law 800 [.val (.ref a), s1, s2, s3] st h = E_ d mL_law 801 [.val (.ref a), s1, s2, s3] (.ref a :: st) h := e_go dL_law_800 rfl rfl
theorem wL_law_801 : E_ d mL_law 801 [s0, s1, s2, .val (.int x)] st h = E_ d mL_law 802 [s0, s1, s2, .val (.int x)] (.int x :: st) h := e_go dL_law_801 rfl rfl
theorem wL_law_802 : E_ d mL_law 802 ls st h = E_ d mL_law 803 ls (.int (nI 1) :: st) h := e_iconst dL_law_802 kiconst_1 rfl
theorem wL_law_803 : E_ d mL_law 803 ls (.int y :: .int x :: st) h = E_ d mL_law 804 ls (.int (x + y) :: st) h := e_go dL_law_803 rfl rfl
theorem wL_law_804 (ht : oT h a = 39) (hi : xix x (oN h a) = true) : E_ d mL_law 804 ls (.int x :: .ref a :: st) h = E_ d mL_law 805 ls (.int (oI h a x.toNatClampNeg) :: st) h := e_iald9 dL_law_804 rfl ht hi
theorem wL_law_805 : E_ d mL_law 805 [.val (.ref a), s1, s2, s3] st h = E_ d mL_law 806 [.val (.ref a), s1, s2, s3] (.ref a :: st) h := e_go dL_law_805 rfl rfl
theorem wL_law_806 : E_ d mL_law 806 [s0, s1, s2, .val (.int x)] st h = E_ d mL_law 807 [s0, s1, s2, .val (.int x)] (.int x :: st) h := e_go dL_law_806 rfl rfl
theorem wL_law_807 : E_ d mL_law 807 ls st h = E_ d mL_law 808 ls (.int (nI 2) :: st) h := e_iconst dL_law_807 kiconst_2 rfl
theorem wL_law_808 : E_ d mL_law 808 ls (.int y :: .int x :: st) h = E_ d mL_law 809 ls (.int (x + y) :: st) h := e_go dL_law_808 rfl rfl
theorem wL_law_809 (ht : oT h a = 39) (hi : xix x (oN h a) = true) : E_ d mL_law 809 ls (.int x :: .ref a :: st) h = E_ d mL_law 810 ls (.int (oI h a x.toNatClampNeg) :: st) h := e_iald9 dL_law_809 rfl ht hi
theorem wL_law_810 (ht : oT h a = 1) : E_ (d + 1) mL_law 810 ls [.int x2, .int x1, .ref a] h = (C_ d mX0_blame [.ref a, .int x1, .int x2] h).bind fun r => E_ (d + 1) mL_law 813 ls (xpu r.1 []) r.2 := e_vir dL_law_810 rfl rfl rfl rfl rfl rfl (Nat.le_of_ble_eq_true rfl) (Nat.le_of_ble_eq_true rfl) ht
theorem wL_law_813 : E_ d mL_law 813 [s0, s1, .val (.ref a), s3] st h = E_ d mL_law 814 [s0, s1, .val (.ref a), s3] (.ref a :: st) h := e_go dL_law_813 rfl rfl
theorem wL_law_814 : E_ d mL_law 814 [.val (.ref a), s1, s2, s3] st h = E_ d mL_law 815 [.val (.ref a), s1, s2, s3] (.ref a :: st) h := e_go dL_law_814 rfl rfl
theorem wL_law_815 : E_ d mL_law 815 [s0, s1, s2, .val (.int x)] st h = E_ d mL_law 816 [s0, s1, s2, .val (.int x)] (.int x :: st) h := e_go dL_law_815 rfl rfl
theorem wL_law_816 : E_ d mL_law 816 ls st h = E_ d mL_law 817 ls (.int (nI 1) :: st) h := e_iconst dL_law_816 kiconst_1 rfl
theorem wL_law_817 : E_ d mL_law 817 ls (.int y :: .int x :: st) h = E_ d mL_law 818 ls (.int (x + y) :: st) h := e_go dL_law_817 rfl rfl
theorem wL_law_818 (ht : oT h a = 39) (hi : xix x (oN h a) = true) : E_ d mL_law 818 ls (.int x :: .ref a :: st) h = E_ d mL_law 819 ls (.int (oI h a x.toNatClampNeg) :: st) h := e_iald9 dL_law_818 rfl ht hi
theorem wL_law_819 : E_ d mL_law 819 [.val (.ref a), s1, s2, s3] st h = E_ d mL_law 820 [.val (.ref a), s1, s2, s3] (.ref a :: st) h := e_go dL_law_819 rfl rfl
theorem wL_law_820 : E_ d mL_law 820 [s0, s1, s2, .val (.int x)] st h = E_ d mL_law 821 [s0, s1, s2, .val (.int x)] (.int x :: st) h := e_go dL_law_820 rfl rfl
theorem wL_law_821 : E_ d mL_law 821 ls st h = E_ d mL_law 822 ls (.int (nI 2) :: st) h := e_iconst dL_law_821 kiconst_2 rfl
theorem wL_law_822 : E_ d mL_law 822 ls (.int y :: .int x :: st) h = E_ d mL_law 823 ls (.int (x + y) :: st) h := e_go dL_law_822 rfl rfl
theorem wL_law_823 (ht : oT h a = 39) (hi : xix x (oN h a) = true) : E_ d mL_law 823 ls (.int x :: .ref a :: st) h = E_ d mL_law 824 ls (.int (oI h a x.toNatClampNeg) :: st) h := e_iald9 dL_law_823 rfl ht hi
theorem wL_law_824 (ht : oT h a = 7) : E_ (d + 1) mL_law 824 ls [.int x2, .int x1, .ref a, .long u1] h = (C_ d mX5_blame [.ref a, .int x1, .int x2] h).bind fun r => E_ (d + 1) mL_law 827 ls (xpu r.1 [.long u1]) r.2 := e_vir dL_law_824 rfl rfl rfl rfl rfl rfl (Nat.le_of_ble_eq_true rfl) (Nat.le_of_ble_eq_true rfl) ht
theorem wL_law_827 : E_ d mL_law 827 ls (.long v :: .long u :: st) h = E_ d mL_law 828 ls (.int (lg_cmp u v) :: st) h := e_go dL_law_827 rfl rfl
theorem wL_law_828 : E_ d mL_law 828 ls (.int x :: st) h = if x = 0 then E_ d mL_law 1989 ls st h else E_ d mL_law 831 ls st h := e_zeq dL_law_828 rfl rfl
theorem wL_law_831 : E_ d mL_law 831 ls st h = E_ d mL_law 832 ls (.int (nI 0) :: st) h := e_iconst dL_law_831 kiconst_0 rfl
theorem wL_law_832 (hx : x = 0 ∨ x = 1) : E_ d mL_law 832 ls [.int x] h = some (some (.int x), h) := e_rtZ dL_law_832 rfl hx
theorem wL_law_833 : E_ d mL_law 833 [s0, .val (.ref a), s2, s3] st h = E_ d mL_law 834 [s0, .val (.ref a), s2, s3] (.ref a :: st) h := e_go dL_law_833 rfl rfl
theorem wL_law_834 : E_ d mL_law 834 [.val (.ref a), s1, s2, s3] st h = E_ d mL_law 835 [.val (.ref a), s1, s2, s3] (.ref a :: st) h := e_go dL_law_834 rfl rfl
theorem wL_law_835 : E_ d mL_law 835 [s0, s1, s2, .val (.int x)] st h = E_ d mL_law 836 [s0, s1, s2, .val (.int x)] (.int x :: st) h := e_go dL_law_835 rfl rfl
theorem wL_law_836 : E_ d mL_law 836 ls st h = E_ d mL_law 837 ls (.int (nI 1) :: st) h := e_iconst dL_law_836 kiconst_1 rfl
theorem wL_law_837 : E_ d mL_law 837 ls (.int y :: .int x :: st) h = E_ d mL_law 838 ls (.int (x + y) :: st) h := e_go dL_law_837 rfl rfl
theorem wL_law_838 (ht : oT h a = 39) (hi : xix x (oN h a) = true) : E_ d mL_law 838 ls (.int x :: .ref a :: st) h = E_ d mL_law 839 ls (.int (oI h a x.toNatClampNeg) :: st) h := e_iald9 dL_law_838 rfl ht hi
theorem wL_law_839 (ht : oT h a = 1) : E_ (d + 1) mL_law 839 ls [.int x1, .ref a] h = (C_ d mX0_mean [.ref a, .int x1] h).bind fun r => E_ (d + 1) mL_law 842 ls (xpu r.1 []) r.2 := e_vir dL_law_839 rfl rfl rfl rfl rfl rfl (Nat.le_of_ble_eq_true rfl) (Nat.le_of_ble_eq_true rfl) ht
theorem wL_law_842 : E_ d mL_law 842 [s0, s1, .val (.ref a), s3] st h = E_ d mL_law 843 [s0, s1, .val (.ref a), s3] (.ref a :: st) h := e_go dL_law_842 rfl rfl
theorem wL_law_843 : E_ d mL_law 843 [.val (.ref a), s1, s2, s3] st h = E_ d mL_law 844 [.val (.ref a), s1, s2, s3] (.ref a :: st) h := e_go dL_law_843 rfl rfl
theorem wL_law_844 : E_ d mL_law 844 [s0, s1, s2, .val (.int x)] st h = E_ d mL_law 845 [s0, s1, s2, .val (.int x)] (.int x :: st) h := e_go dL_law_844 rfl rfl
theorem wL_law_845 : E_ d mL_law 845 ls st h = E_ d mL_law 846 ls (.int (nI 1) :: st) h := e_iconst dL_law_845 kiconst_1 rfl
theorem wL_law_846 : E_ d mL_law 846 ls (.int y :: .int x :: st) h = E_ d mL_law 847 ls (.int (x + y) :: st) h := e_go dL_law_846 rfl rfl
theorem wL_law_847 (ht : oT h a = 39) (hi : xix x (oN h a) = true) : E_ d mL_law 847 ls (.int x :: .ref a :: st) h = E_ d mL_law 848 ls (.int (oI h a x.toNatClampNeg) :: st) h := e_iald9 dL_law_847 rfl ht hi
theorem wL_law_848 (ht : oT h a = 7) : E_ (d + 1) mL_law 848 ls [.int x1, .ref a, .long u1] h = (C_ d mX5_mean [.ref a, .int x1] h).bind fun r => E_ (d + 1) mL_law 851 ls (xpu r.1 [.long u1]) r.2 := e_vir dL_law_848 rfl rfl rfl rfl rfl rfl (Nat.le_of_ble_eq_true rfl) (Nat.le_of_ble_eq_true rfl) ht
theorem wL_law_851 : E_ d mL_law 851 ls (.long v :: .long u :: st) h = E_ d mL_law 852 ls (.int (lg_cmp u v) :: st) h := e_go dL_law_851 rfl rfl
theorem wL_law_852 : E_ d mL_law 852 ls (.int x :: st) h = if x = 0 then E_ d mL_law 1989 ls st h else E_ d mL_law 855 ls st h := e_zeq dL_law_852 rfl rfl
theorem wL_law_855 : E_ d mL_law 855 ls st h = E_ d mL_law 856 ls (.int (nI 0) :: st) h := e_iconst dL_law_855 kiconst_0 rfl
theorem wL_law_856 (hx : x = 0 ∨ x = 1) : E_ d mL_law 856 ls [.int x] h = some (some (.int x), h) := e_rtZ dL_law_856 rfl hx
theorem wL_law_857 : E_ d mL_law 857 [s0, .val (.ref a), s2, s3] st h = E_ d mL_law 858 [s0, .val (.ref a), s2, s3] (.ref a :: st) h := e_go dL_law_857 rfl rfl
theorem wL_law_858 : E_ d mL_law 858 [.val (.ref a), s1, s2, s3] st h = E_ d mL_law 859 [.val (.ref a), s1, s2, s3] (.ref a :: st) h := e_go dL_law_858 rfl rfl
theorem wL_law_859 : E_ d mL_law 859 [s0, s1, s2, .val (.int x)] st h = E_ d mL_law 860 [s0, s1, s2, .val (.int x)] (.int x :: st) h := e_go dL_law_859 rfl rfl
theorem wL_law_860 : E_ d mL_law 860 ls st h = E_ d mL_law 861 ls (.int (nI 1) :: st) h := e_iconst dL_law_860 kiconst_1 rfl
theorem wL_law_861 : E_ d mL_law 861 ls (.int y :: .int x :: st) h = E_ d mL_law 862 ls (.int (x + y) :: st) h := e_go dL_law_861 rfl rfl
theorem wL_law_862 (ht : oT h a = 39) (hi : xix x (oN h a) = true) : E_ d mL_law 862 ls (.int x :: .ref a :: st) h = E_ d mL_law 863 ls (.int (oI h a x.toNatClampNeg) :: st) h := e_iald9 dL_law_862 rfl ht hi
theorem wL_law_863 (ht : oT h a = 1) : E_ (d + 1) mL_law 863 ls [.int x1, .ref a] h = (C_ d mX0_repeals [.ref a, .int x1] h).bind fun r => E_ (d + 1) mL_law 866 ls (xpu r.1 []) r.2 := e_vir dL_law_863 rfl rfl rfl rfl rfl rfl (Nat.le_of_ble_eq_true rfl) (Nat.le_of_ble_eq_true rfl) ht
theorem wL_law_866 : E_ d mL_law 866 [s0, s1, .val (.ref a), s3] st h = E_ d mL_law 867 [s0, s1, .val (.ref a), s3] (.ref a :: st) h := e_go dL_law_866 rfl rfl
theorem wL_law_867 : E_ d mL_law 867 [.val (.ref a), s1, s2, s3] st h = E_ d mL_law 868 [.val (.ref a), s1, s2, s3] (.ref a :: st) h := e_go dL_law_867 rfl rfl
theorem wL_law_868 : E_ d mL_law 868 [s0, s1, s2, .val (.int x)] st h = E_ d mL_law 869 [s0, s1, s2, .val (.int x)] (.int x :: st) h := e_go dL_law_868 rfl rfl
theorem wL_law_869 : E_ d mL_law 869 ls st h = E_ d mL_law 870 ls (.int (nI 1) :: st) h := e_iconst dL_law_869 kiconst_1 rfl
theorem wL_law_870 : E_ d mL_law 870 ls (.int y :: .int x :: st) h = E_ d mL_law 871 ls (.int (x + y) :: st) h := e_go dL_law_870 rfl rfl
theorem wL_law_871 (ht : oT h a = 39) (hi : xix x (oN h a) = true) : E_ d mL_law 871 ls (.int x :: .ref a :: st) h = E_ d mL_law 872 ls (.int (oI h a x.toNatClampNeg) :: st) h := e_iald9 dL_law_871 rfl ht hi
theorem wL_law_872 (ht : oT h a = 7) : E_ (d + 1) mL_law 872 ls [.int x1, .ref a, .long u1] h = (C_ d mX5_repeals [.ref a, .int x1] h).bind fun r => E_ (d + 1) mL_law 875 ls (xpu r.1 [.long u1]) r.2 := e_vir dL_law_872 rfl rfl rfl rfl rfl rfl (Nat.le_of_ble_eq_true rfl) (Nat.le_of_ble_eq_true rfl) ht
theorem wL_law_875 : E_ d mL_law 875 ls (.long v :: .long u :: st) h = E_ d mL_law 876 ls (.int (lg_cmp u v) :: st) h := e_go dL_law_875 rfl rfl
theorem wL_law_876 : E_ d mL_law 876 ls (.int x :: st) h = if x = 0 then E_ d mL_law 1989 ls st h else E_ d mL_law 879 ls st h := e_zeq dL_law_876 rfl rfl
theorem wL_law_879 : E_ d mL_law 879 ls st h = E_ d mL_law 880 ls (.int (nI 0) :: st) h := e_iconst dL_law_879 kiconst_0 rfl
theorem wL_law_880 (hx : x = 0 ∨ x = 1) : E_ d mL_law 880 ls [.int x] h = some (some (.int x), h) := e_rtZ dL_law_880 rfl hx
theorem wL_law_881 : E_ d mL_law 881 [s0, .val (.ref a), s2, s3] st h = E_ d mL_law 882 [s0, .val (.ref a), s2, s3] (.ref a :: st) h := e_go dL_law_881 rfl rfl
theorem wL_law_882 : E_ d mL_law 882 [.val (.ref a), s1, s2, s3] st h = E_ d mL_law 883 [.val (.ref a), s1, s2, s3] (.ref a :: st) h := e_go dL_law_882 rfl rfl
theorem wL_law_883 : E_ d mL_law 883 [s0, s1, s2, .val (.int x)] st h = E_ d mL_law 884 [s0, s1, s2, .val (.int x)] (.int x :: st) h := e_go dL_law_883 rfl rfl
theorem wL_law_884 : E_ d mL_law 884 ls st h = E_ d mL_law 885 ls (.int (nI 1) :: st) h := e_iconst dL_law_884 kiconst_1 rfl
theorem wL_law_885 : E_ d mL_law 885 ls (.int y :: .int x :: st) h = E_ d mL_law 886 ls (.int (x + y) :: st) h := e_go dL_law_885 rfl rfl
theorem wL_law_886 (ht : oT h a = 39) (hi : xix x (oN h a) = true) : E_ d mL_law 886 ls (.int x :: .ref a :: st) h = E_ d mL_law 887 ls (.int (oI h a x.toNatClampNeg) :: st) h := e_iald9 dL_law_886 rfl ht hi
theorem wL_law_887 (ht : oT h a = 1) : E_ (d + 1) mL_law 887 ls [.int x1, .ref a] h = (C_ d mX0_absent [.ref a, .int x1] h).bind fun r => E_ (d + 1) mL_law 890 ls (xpu r.1 []) r.2 := e_vir dL_law_887 rfl rfl rfl rfl rfl rfl (Nat.le_of_ble_eq_true rfl) (Nat.le_of_ble_eq_true rfl) ht
theorem wL_law_890 : E_ d mL_law 890 [s0, s1, .val (.ref a), s3] st h = E_ d mL_law 891 [s0, s1, .val (.ref a), s3] (.ref a :: st) h := e_go dL_law_890 rfl rfl
theorem wL_law_891 : E_ d mL_law 891 [.val (.ref a), s1, s2, s3] st h = E_ d mL_law 892 [.val (.ref a), s1, s2, s3] (.ref a :: st) h := e_go dL_law_891 rfl rfl
theorem wL_law_892 : E_ d mL_law 892 [s0, s1, s2, .val (.int x)] st h = E_ d mL_law 893 [s0, s1, s2, .val (.int x)] (.int x :: st) h := e_go dL_law_892 rfl rfl
theorem wL_law_893 : E_ d mL_law 893 ls st h = E_ d mL_law 894 ls (.int (nI 1) :: st) h := e_iconst dL_law_893 kiconst_1 rfl
theorem wL_law_894 : E_ d mL_law 894 ls (.int y :: .int x :: st) h = E_ d mL_law 895 ls (.int (x + y) :: st) h := e_go dL_law_894 rfl rfl
theorem wL_law_895 (ht : oT h a = 39) (hi : xix x (oN h a) = true) : E_ d mL_law 895 ls (.int x :: .ref a :: st) h = E_ d mL_law 896 ls (.int (oI h a x.toNatClampNeg) :: st) h := e_iald9 dL_law_895 rfl ht hi
theorem wL_law_896 (ht : oT h a = 7) : E_ (d + 1) mL_law 896 ls [.int x1, .ref a, .long u1] h = (C_ d mX5_absent [.ref a, .int x1] h).bind fun r => E_ (d + 1) mL_law 899 ls (xpu r.1 [.long u1]) r.2 := e_vir dL_law_896 rfl rfl rfl rfl rfl rfl (Nat.le_of_ble_eq_true rfl) (Nat.le_of_ble_eq_true rfl) ht
theorem wL_law_899 : E_ d mL_law 899 ls (.long v :: .long u :: st) h = E_ d mL_law 900 ls (.int (lg_cmp u v) :: st) h := e_go dL_law_899 rfl rfl
theorem wL_law_900 : E_ d mL_law 900 ls (.int x :: st) h = if x = 0 then E_ d mL_law 1989 ls st h else E_ d mL_law 903 ls st h := e_zeq dL_law_900 rfl rfl
theorem wL_law_903 : E_ d mL_law 903 ls st h = E_ d mL_law 904 ls (.int (nI 0) :: st) h := e_iconst dL_law_903 kiconst_0 rfl
theorem wL_law_904 (hx : x = 0 ∨ x = 1) : E_ d mL_law 904 ls [.int x] h = some (some (.int x), h) := e_rtZ dL_law_904 rfl hx
theorem wL_law_905 : E_ d mL_law 905 [s0, .val (.ref a), s2, s3] st h = E_ d mL_law 906 [s0, .val (.ref a), s2, s3] (.ref a :: st) h := e_go dL_law_905 rfl rfl
theorem wL_law_906 : E_ d mL_law 906 [.val (.ref a), s1, s2, s3] st h = E_ d mL_law 907 [.val (.ref a), s1, s2, s3] (.ref a :: st) h := e_go dL_law_906 rfl rfl
theorem wL_law_907 : E_ d mL_law 907 [s0, s1, s2, .val (.int x)] st h = E_ d mL_law 908 [s0, s1, s2, .val (.int x)] (.int x :: st) h := e_go dL_law_907 rfl rfl
theorem wL_law_908 : E_ d mL_law 908 ls st h = E_ d mL_law 909 ls (.int (nI 1) :: st) h := e_iconst dL_law_908 kiconst_1 rfl
theorem wL_law_909 : E_ d mL_law 909 ls (.int y :: .int x :: st) h = E_ d mL_law 910 ls (.int (x + y) :: st) h := e_go dL_law_909 rfl rfl
theorem wL_law_910 (ht : oT h a = 39) (hi : xix x (oN h a) = true) : E_ d mL_law 910 ls (.int x :: .ref a :: st) h = E_ d mL_law 911 ls (.int (oI h a x.toNatClampNeg) :: st) h := e_iald9 dL_law_910 rfl ht hi
theorem wL_law_911 (ht : oT h a = 1) : E_ (d + 1) mL_law 911 ls [.int x1, .ref a] h = (C_ d mX0_margin [.ref a, .int x1] h).bind fun r => E_ (d + 1) mL_law 914 ls (xpu r.1 []) r.2 := e_vir dL_law_911 rfl rfl rfl rfl rfl rfl (Nat.le_of_ble_eq_true rfl) (Nat.le_of_ble_eq_true rfl) ht
theorem wL_law_914 : E_ d mL_law 914 [s0, s1, .val (.ref a), s3] st h = E_ d mL_law 915 [s0, s1, .val (.ref a), s3] (.ref a :: st) h := e_go dL_law_914 rfl rfl
theorem wL_law_915 : E_ d mL_law 915 [.val (.ref a), s1, s2, s3] st h = E_ d mL_law 916 [.val (.ref a), s1, s2, s3] (.ref a :: st) h := e_go dL_law_915 rfl rfl
theorem wL_law_916 : E_ d mL_law 916 [s0, s1, s2, .val (.int x)] st h = E_ d mL_law 917 [s0, s1, s2, .val (.int x)] (.int x :: st) h := e_go dL_law_916 rfl rfl
theorem wL_law_917 : E_ d mL_law 917 ls st h = E_ d mL_law 918 ls (.int (nI 1) :: st) h := e_iconst dL_law_917 kiconst_1 rfl
theorem wL_law_918 : E_ d mL_law 918 ls (.int y :: .int x :: st) h = E_ d mL_law 919 ls (.int (x + y) :: st) h := e_go dL_law_918 rfl rfl
theorem wL_law_919 (ht : oT h a = 39) (hi : xix x (oN h a) = true) : E_ d mL_law 919 ls (.int x :: .ref a :: st) h = E_ d mL_law 920 ls (.int (oI h a x.toNatClampNeg) :: st) h := e_iald9 dL_law_919 rfl ht hi
theorem wL_law_920 (ht : oT h a = 7) : E_ (d + 1) mL_law 920 ls [.int x1, .ref a, .int x2] h = (C_ d mX5_margin [.ref a, .int x1] h).bind fun r => E_ (d + 1) mL_law 923 ls (xpu r.1 [.int x2]) r.2 := e_vir dL_law_920 rfl rfl rfl rfl rfl rfl (Nat.le_of_ble_eq_true rfl) (Nat.le_of_ble_eq_true rfl) ht
theorem wL_law_923 : E_ d mL_law 923 ls (.int y :: .int x :: st) h = if x = y then E_ d mL_law 1989 ls st h else E_ d mL_law 926 ls st h := e_ieq dL_law_923 rfl rfl
theorem wL_law_926 : E_ d mL_law 926 ls st h = E_ d mL_law 927 ls (.int (nI 0) :: st) h := e_iconst dL_law_926 kiconst_0 rfl
theorem wL_law_927 (hx : x = 0 ∨ x = 1) : E_ d mL_law 927 ls [.int x] h = some (some (.int x), h) := e_rtZ dL_law_927 rfl hx
theorem wL_law_928 : E_ d mL_law 928 [s0, .val (.ref a), s2, s3] st h = E_ d mL_law 929 [s0, .val (.ref a), s2, s3] (.ref a :: st) h := e_go dL_law_928 rfl rfl
theorem wL_law_929 : E_ d mL_law 929 [.val (.ref a), s1, s2, s3] st h = E_ d mL_law 930 [.val (.ref a), s1, s2, s3] (.ref a :: st) h := e_go dL_law_929 rfl rfl
theorem wL_law_930 : E_ d mL_law 930 [s0, s1, s2, .val (.int x)] st h = E_ d mL_law 931 [s0, s1, s2, .val (.int x)] (.int x :: st) h := e_go dL_law_930 rfl rfl
theorem wL_law_931 : E_ d mL_law 931 ls st h = E_ d mL_law 932 ls (.int (nI 1) :: st) h := e_iconst dL_law_931 kiconst_1 rfl
theorem wL_law_932 : E_ d mL_law 932 ls (.int y :: .int x :: st) h = E_ d mL_law 933 ls (.int (x + y) :: st) h := e_go dL_law_932 rfl rfl
theorem wL_law_933 (ht : oT h a = 39) (hi : xix x (oN h a) = true) : E_ d mL_law 933 ls (.int x :: .ref a :: st) h = E_ d mL_law 934 ls (.int (oI h a x.toNatClampNeg) :: st) h := e_iald9 dL_law_933 rfl ht hi
theorem wL_law_934 : E_ d mL_law 934 ls (.int x :: st) h = if x = 0 then E_ d mL_law 941 ls st h else E_ d mL_law 937 ls st h := e_zeq dL_law_934 rfl rfl
theorem wL_law_937 : E_ d mL_law 937 ls st h = E_ d mL_law 938 ls (.int (nI 1) :: st) h := e_iconst dL_law_937 kiconst_1 rfl
theorem wL_law_938 : E_ d mL_law 938 ls st h = E_ d mL_law 942 ls st h := e_gt dL_law_938 rfl
theorem wL_law_941 : E_ d mL_law 941 ls st h = E_ d mL_law 942 ls (.int (nI 0) :: st) h := e_iconst dL_law_941 kiconst_0 rfl
theorem wL_law_942 : E_ d mL_law 942 [.val (.ref a), s1, s2, s3] st h = E_ d mL_law 943 [.val (.ref a), s1, s2, s3] (.ref a :: st) h := e_go dL_law_942 rfl rfl
theorem wL_law_943 : E_ d mL_law 943 [s0, s1, s2, .val (.int x)] st h = E_ d mL_law 944 [s0, s1, s2, .val (.int x)] (.int x :: st) h := e_go dL_law_943 rfl rfl
theorem wL_law_944 : E_ d mL_law 944 ls st h = E_ d mL_law 945 ls (.int (nI 2) :: st) h := e_iconst dL_law_944 kiconst_2 rfl
theorem wL_law_945 : E_ d mL_law 945 ls (.int y :: .int x :: st) h = E_ d mL_law 946 ls (.int (x + y) :: st) h := e_go dL_law_945 rfl rfl
theorem wL_law_946 (ht : oT h a = 39) (hi : xix x (oN h a) = true) : E_ d mL_law 946 ls (.int x :: .ref a :: st) h = E_ d mL_law 947 ls (.int (oI h a x.toNatClampNeg) :: st) h := e_iald9 dL_law_946 rfl ht hi
theorem wL_law_947 : E_ d mL_law 947 [.val (.ref a), s1, s2, s3] st h = E_ d mL_law 948 [.val (.ref a), s1, s2, s3] (.ref a :: st) h := e_go dL_law_947 rfl rfl
theorem wL_law_948 : E_ d mL_law 948 [s0, s1, s2, .val (.int x)] st h = E_ d mL_law 949 [s0, s1, s2, .val (.int x)] (.int x :: st) h := e_go dL_law_948 rfl rfl
theorem wL_law_949 : E_ d mL_law 949 ls st h = E_ d mL_law 950 ls (.int (nI 3) :: st) h := e_iconst dL_law_949 kiconst_3 rfl
theorem wL_law_950 : E_ d mL_law 950 ls (.int y :: .int x :: st) h = E_ d mL_law 951 ls (.int (x + y) :: st) h := e_go dL_law_950 rfl rfl
theorem wL_law_951 (ht : oT h a = 39) (hi : xix x (oN h a) = true) : E_ d mL_law 951 ls (.int x :: .ref a :: st) h = E_ d mL_law 952 ls (.int (oI h a x.toNatClampNeg) :: st) h := e_iald9 dL_law_951 rfl ht hi
theorem wL_law_952 : E_ d mL_law 952 [.val (.ref a), s1, s2, s3] st h = E_ d mL_law 953 [.val (.ref a), s1, s2, s3] (.ref a :: st) h := e_go dL_law_952 rfl rfl
theorem wL_law_953 : E_ d mL_law 953 [s0, s1, s2, .val (.int x)] st h = E_ d mL_law 954 [s0, s1, s2, .val (.int x)] (.int x :: st) h := e_go dL_law_953 rfl rfl
theorem wL_law_954 : E_ d mL_law 954 ls st h = E_ d mL_law 955 ls (.int (nI 4) :: st) h := e_iconst dL_law_954 kiconst_4 rfl
theorem wL_law_955 : E_ d mL_law 955 ls (.int y :: .int x :: st) h = E_ d mL_law 956 ls (.int (x + y) :: st) h := e_go dL_law_955 rfl rfl
theorem wL_law_956 (ht : oT h a = 39) (hi : xix x (oN h a) = true) : E_ d mL_law 956 ls (.int x :: .ref a :: st) h = E_ d mL_law 957 ls (.int (oI h a x.toNatClampNeg) :: st) h := e_iald9 dL_law_956 rfl ht hi
theorem wL_law_957 : E_ d mL_law 957 [.val (.ref a), s1, s2, s3] st h = E_ d mL_law 958 [.val (.ref a), s1, s2, s3] (.ref a :: st) h := e_go dL_law_957 rfl rfl
theorem wL_law_958 : E_ d mL_law 958 [s0, s1, s2, .val (.int x)] st h = E_ d mL_law 959 [s0, s1, s2, .val (.int x)] (.int x :: st) h := e_go dL_law_958 rfl rfl
theorem wL_law_959 : E_ d mL_law 959 ls st h = E_ d mL_law 960 ls (.int (nI 5) :: st) h := e_iconst dL_law_959 kiconst_5 rfl
theorem wL_law_960 : E_ d mL_law 960 ls (.int y :: .int x :: st) h = E_ d mL_law 961 ls (.int (x + y) :: st) h := e_go dL_law_960 rfl rfl
theorem wL_law_961 (ht : oT h a = 39) (hi : xix x (oN h a) = true) : E_ d mL_law 961 ls (.int x :: .ref a :: st) h = E_ d mL_law 962 ls (.int (oI h a x.toNatClampNeg) :: st) h := e_iald9 dL_law_961 rfl ht hi
theorem wL_law_962 (ht : oT h a = 1) : E_ (d + 1) mL_law 962 ls [.int x5, .int x4, .int x3, .int x2, .int x1, .ref a] h = (C_ d mX0_place [.ref a, .int x1, .int x2, .int x3, .int x4, .int x5] h).bind fun r => E_ (d + 1) mL_law 965 ls (xpu r.1 []) r.2 := e_vir dL_law_962 rfl rfl rfl rfl rfl rfl (Nat.le_of_ble_eq_true rfl) (Nat.le_of_ble_eq_true rfl) ht
theorem wL_law_965 : E_ d mL_law 965 [s0, s1, .val (.ref a), s3] st h = E_ d mL_law 966 [s0, s1, .val (.ref a), s3] (.ref a :: st) h := e_go dL_law_965 rfl rfl
theorem wL_law_966 : E_ d mL_law 966 [.val (.ref a), s1, s2, s3] st h = E_ d mL_law 967 [.val (.ref a), s1, s2, s3] (.ref a :: st) h := e_go dL_law_966 rfl rfl
theorem wL_law_967 : E_ d mL_law 967 [s0, s1, s2, .val (.int x)] st h = E_ d mL_law 968 [s0, s1, s2, .val (.int x)] (.int x :: st) h := e_go dL_law_967 rfl rfl
theorem wL_law_968 : E_ d mL_law 968 ls st h = E_ d mL_law 969 ls (.int (nI 1) :: st) h := e_iconst dL_law_968 kiconst_1 rfl
theorem wL_law_969 : E_ d mL_law 969 ls (.int y :: .int x :: st) h = E_ d mL_law 970 ls (.int (x + y) :: st) h := e_go dL_law_969 rfl rfl
theorem wL_law_970 (ht : oT h a = 39) (hi : xix x (oN h a) = true) : E_ d mL_law 970 ls (.int x :: .ref a :: st) h = E_ d mL_law 971 ls (.int (oI h a x.toNatClampNeg) :: st) h := e_iald9 dL_law_970 rfl ht hi
theorem wL_law_971 : E_ d mL_law 971 ls (.int x :: st) h = if x = 0 then E_ d mL_law 978 ls st h else E_ d mL_law 974 ls st h := e_zeq dL_law_971 rfl rfl
theorem wL_law_974 : E_ d mL_law 974 ls st h = E_ d mL_law 975 ls (.int (nI 1) :: st) h := e_iconst dL_law_974 kiconst_1 rfl
theorem wL_law_975 : E_ d mL_law 975 ls st h = E_ d mL_law 979 ls st h := e_gt dL_law_975 rfl
theorem wL_law_978 : E_ d mL_law 978 ls st h = E_ d mL_law 979 ls (.int (nI 0) :: st) h := e_iconst dL_law_978 kiconst_0 rfl
theorem wL_law_979 : E_ d mL_law 979 [.val (.ref a), s1, s2, s3] st h = E_ d mL_law 980 [.val (.ref a), s1, s2, s3] (.ref a :: st) h := e_go dL_law_979 rfl rfl
theorem wL_law_980 : E_ d mL_law 980 [s0, s1, s2, .val (.int x)] st h = E_ d mL_law 981 [s0, s1, s2, .val (.int x)] (.int x :: st) h := e_go dL_law_980 rfl rfl
theorem wL_law_981 : E_ d mL_law 981 ls st h = E_ d mL_law 982 ls (.int (nI 2) :: st) h := e_iconst dL_law_981 kiconst_2 rfl
theorem wL_law_982 : E_ d mL_law 982 ls (.int y :: .int x :: st) h = E_ d mL_law 983 ls (.int (x + y) :: st) h := e_go dL_law_982 rfl rfl
theorem wL_law_983 (ht : oT h a = 39) (hi : xix x (oN h a) = true) : E_ d mL_law 983 ls (.int x :: .ref a :: st) h = E_ d mL_law 984 ls (.int (oI h a x.toNatClampNeg) :: st) h := e_iald9 dL_law_983 rfl ht hi
theorem wL_law_984 : E_ d mL_law 984 [.val (.ref a), s1, s2, s3] st h = E_ d mL_law 985 [.val (.ref a), s1, s2, s3] (.ref a :: st) h := e_go dL_law_984 rfl rfl
theorem wL_law_985 : E_ d mL_law 985 [s0, s1, s2, .val (.int x)] st h = E_ d mL_law 986 [s0, s1, s2, .val (.int x)] (.int x :: st) h := e_go dL_law_985 rfl rfl
theorem wL_law_986 : E_ d mL_law 986 ls st h = E_ d mL_law 987 ls (.int (nI 3) :: st) h := e_iconst dL_law_986 kiconst_3 rfl
theorem wL_law_987 : E_ d mL_law 987 ls (.int y :: .int x :: st) h = E_ d mL_law 988 ls (.int (x + y) :: st) h := e_go dL_law_987 rfl rfl
theorem wL_law_988 (ht : oT h a = 39) (hi : xix x (oN h a) = true) : E_ d mL_law 988 ls (.int x :: .ref a :: st) h = E_ d mL_law 989 ls (.int (oI h a x.toNatClampNeg) :: st) h := e_iald9 dL_law_988 rfl ht hi
theorem wL_law_989 : E_ d mL_law 989 [.val (.ref a), s1, s2, s3] st h = E_ d mL_law 990 [.val (.ref a), s1, s2, s3] (.ref a :: st) h := e_go dL_law_989 rfl rfl
theorem wL_law_990 : E_ d mL_law 990 [s0, s1, s2, .val (.int x)] st h = E_ d mL_law 991 [s0, s1, s2, .val (.int x)] (.int x :: st) h := e_go dL_law_990 rfl rfl
theorem wL_law_991 : E_ d mL_law 991 ls st h = E_ d mL_law 992 ls (.int (nI 4) :: st) h := e_iconst dL_law_991 kiconst_4 rfl
theorem wL_law_992 : E_ d mL_law 992 ls (.int y :: .int x :: st) h = E_ d mL_law 993 ls (.int (x + y) :: st) h := e_go dL_law_992 rfl rfl
theorem wL_law_993 (ht : oT h a = 39) (hi : xix x (oN h a) = true) : E_ d mL_law 993 ls (.int x :: .ref a :: st) h = E_ d mL_law 994 ls (.int (oI h a x.toNatClampNeg) :: st) h := e_iald9 dL_law_993 rfl ht hi
theorem wL_law_994 : E_ d mL_law 994 [.val (.ref a), s1, s2, s3] st h = E_ d mL_law 995 [.val (.ref a), s1, s2, s3] (.ref a :: st) h := e_go dL_law_994 rfl rfl
theorem wL_law_995 : E_ d mL_law 995 [s0, s1, s2, .val (.int x)] st h = E_ d mL_law 996 [s0, s1, s2, .val (.int x)] (.int x :: st) h := e_go dL_law_995 rfl rfl
theorem wL_law_996 : E_ d mL_law 996 ls st h = E_ d mL_law 997 ls (.int (nI 5) :: st) h := e_iconst dL_law_996 kiconst_5 rfl
theorem wL_law_997 : E_ d mL_law 997 ls (.int y :: .int x :: st) h = E_ d mL_law 998 ls (.int (x + y) :: st) h := e_go dL_law_997 rfl rfl
theorem wL_law_998 (ht : oT h a = 39) (hi : xix x (oN h a) = true) : E_ d mL_law 998 ls (.int x :: .ref a :: st) h = E_ d mL_law 999 ls (.int (oI h a x.toNatClampNeg) :: st) h := e_iald9 dL_law_998 rfl ht hi
theorem wL_law_999 (ht : oT h a = 7) : E_ (d + 1) mL_law 999 ls [.int x5, .int x4, .int x3, .int x2, .int x1, .ref a, .int x6] h = (C_ d mX5_place [.ref a, .int x1, .int x2, .int x3, .int x4, .int x5] h).bind fun r => E_ (d + 1) mL_law 1002 ls (xpu r.1 [.int x6]) r.2 := e_vir dL_law_999 rfl rfl rfl rfl rfl rfl (Nat.le_of_ble_eq_true rfl) (Nat.le_of_ble_eq_true rfl) ht
theorem wL_law_1002 : E_ d mL_law 1002 ls (.int y :: .int x :: st) h = if x = y then E_ d mL_law 1989 ls st h else E_ d mL_law 1005 ls st h := e_ieq dL_law_1002 rfl rfl
theorem wL_law_1005 : E_ d mL_law 1005 ls st h = E_ d mL_law 1006 ls (.int (nI 0) :: st) h := e_iconst dL_law_1005 kiconst_0 rfl
theorem wL_law_1006 (hx : x = 0 ∨ x = 1) : E_ d mL_law 1006 ls [.int x] h = some (some (.int x), h) := e_rtZ dL_law_1006 rfl hx
theorem wL_law_1007 : E_ d mL_law 1007 [s0, .val (.ref a), s2, s3] st h = E_ d mL_law 1008 [s0, .val (.ref a), s2, s3] (.ref a :: st) h := e_go dL_law_1007 rfl rfl
theorem wL_law_1008 : E_ d mL_law 1008 [.val (.ref a), s1, s2, s3] st h = E_ d mL_law 1009 [.val (.ref a), s1, s2, s3] (.ref a :: st) h := e_go dL_law_1008 rfl rfl
theorem wL_law_1009 : E_ d mL_law 1009 [s0, s1, s2, .val (.int x)] st h = E_ d mL_law 1010 [s0, s1, s2, .val (.int x)] (.int x :: st) h := e_go dL_law_1009 rfl rfl
theorem wL_law_1010 : E_ d mL_law 1010 ls st h = E_ d mL_law 1011 ls (.int (nI 1) :: st) h := e_iconst dL_law_1010 kiconst_1 rfl
theorem wL_law_1011 : E_ d mL_law 1011 ls (.int y :: .int x :: st) h = E_ d mL_law 1012 ls (.int (x + y) :: st) h := e_go dL_law_1011 rfl rfl
theorem wL_law_1012 (ht : oT h a = 39) (hi : xix x (oN h a) = true) : E_ d mL_law 1012 ls (.int x :: .ref a :: st) h = E_ d mL_law 1013 ls (.int (oI h a x.toNatClampNeg) :: st) h := e_iald9 dL_law_1012 rfl ht hi
theorem wL_law_1013 : E_ d mL_law 1013 [.val (.ref a), s1, s2, s3] st h = E_ d mL_law 1014 [.val (.ref a), s1, s2, s3] (.ref a :: st) h := e_go dL_law_1013 rfl rfl
theorem wL_law_1014 : E_ d mL_law 1014 [s0, s1, s2, .val (.int x)] st h = E_ d mL_law 1015 [s0, s1, s2, .val (.int x)] (.int x :: st) h := e_go dL_law_1014 rfl rfl
theorem wL_law_1015 : E_ d mL_law 1015 ls st h = E_ d mL_law 1016 ls (.int (nI 2) :: st) h := e_iconst dL_law_1015 kiconst_2 rfl
theorem wL_law_1016 : E_ d mL_law 1016 ls (.int y :: .int x :: st) h = E_ d mL_law 1017 ls (.int (x + y) :: st) h := e_go dL_law_1016 rfl rfl
theorem wL_law_1017 (ht : oT h a = 39) (hi : xix x (oN h a) = true) : E_ d mL_law 1017 ls (.int x :: .ref a :: st) h = E_ d mL_law 1018 ls (.int (oI h a x.toNatClampNeg) :: st) h := e_iald9 dL_law_1017 rfl ht hi
theorem wL_law_1018 (ht : oT h a = 1) : E_ (d + 1) mL_law 1018 ls [.int x2, .int x1, .ref a] h = (C_ d mX0_behind [.ref a, .int x1, .int x2] h).bind fun r => E_ (d + 1) mL_law 1021 ls (xpu r.1 []) r.2 := e_vir dL_law_1018 rfl rfl rfl rfl rfl rfl (Nat.le_of_ble_eq_true rfl) (Nat.le_of_ble_eq_true rfl) ht
theorem wL_law_1021 : E_ d mL_law 1021 [s0, s1, .val (.ref a), s3] st h = E_ d mL_law 1022 [s0, s1, .val (.ref a), s3] (.ref a :: st) h := e_go dL_law_1021 rfl rfl
theorem wL_law_1022 : E_ d mL_law 1022 [.val (.ref a), s1, s2, s3] st h = E_ d mL_law 1023 [.val (.ref a), s1, s2, s3] (.ref a :: st) h := e_go dL_law_1022 rfl rfl
theorem wL_law_1023 : E_ d mL_law 1023 [s0, s1, s2, .val (.int x)] st h = E_ d mL_law 1024 [s0, s1, s2, .val (.int x)] (.int x :: st) h := e_go dL_law_1023 rfl rfl
theorem wL_law_1024 : E_ d mL_law 1024 ls st h = E_ d mL_law 1025 ls (.int (nI 1) :: st) h := e_iconst dL_law_1024 kiconst_1 rfl
theorem wL_law_1025 : E_ d mL_law 1025 ls (.int y :: .int x :: st) h = E_ d mL_law 1026 ls (.int (x + y) :: st) h := e_go dL_law_1025 rfl rfl
theorem wL_law_1026 (ht : oT h a = 39) (hi : xix x (oN h a) = true) : E_ d mL_law 1026 ls (.int x :: .ref a :: st) h = E_ d mL_law 1027 ls (.int (oI h a x.toNatClampNeg) :: st) h := e_iald9 dL_law_1026 rfl ht hi
theorem wL_law_1027 : E_ d mL_law 1027 [.val (.ref a), s1, s2, s3] st h = E_ d mL_law 1028 [.val (.ref a), s1, s2, s3] (.ref a :: st) h := e_go dL_law_1027 rfl rfl
theorem wL_law_1028 : E_ d mL_law 1028 [s0, s1, s2, .val (.int x)] st h = E_ d mL_law 1029 [s0, s1, s2, .val (.int x)] (.int x :: st) h := e_go dL_law_1028 rfl rfl
theorem wL_law_1029 : E_ d mL_law 1029 ls st h = E_ d mL_law 1030 ls (.int (nI 2) :: st) h := e_iconst dL_law_1029 kiconst_2 rfl
theorem wL_law_1030 : E_ d mL_law 1030 ls (.int y :: .int x :: st) h = E_ d mL_law 1031 ls (.int (x + y) :: st) h := e_go dL_law_1030 rfl rfl
theorem wL_law_1031 (ht : oT h a = 39) (hi : xix x (oN h a) = true) : E_ d mL_law 1031 ls (.int x :: .ref a :: st) h = E_ d mL_law 1032 ls (.int (oI h a x.toNatClampNeg) :: st) h := e_iald9 dL_law_1031 rfl ht hi
theorem wL_law_1032 (ht : oT h a = 7) : E_ (d + 1) mL_law 1032 ls [.int x2, .int x1, .ref a, .int x3] h = (C_ d mX5_behind [.ref a, .int x1, .int x2] h).bind fun r => E_ (d + 1) mL_law 1035 ls (xpu r.1 [.int x3]) r.2 := e_vir dL_law_1032 rfl rfl rfl rfl rfl rfl (Nat.le_of_ble_eq_true rfl) (Nat.le_of_ble_eq_true rfl) ht
theorem wL_law_1035 : E_ d mL_law 1035 ls (.int y :: .int x :: st) h = if x = y then E_ d mL_law 1989 ls st h else E_ d mL_law 1038 ls st h := e_ieq dL_law_1035 rfl rfl
theorem wL_law_1038 : E_ d mL_law 1038 ls st h = E_ d mL_law 1039 ls (.int (nI 0) :: st) h := e_iconst dL_law_1038 kiconst_0 rfl
theorem wL_law_1039 (hx : x = 0 ∨ x = 1) : E_ d mL_law 1039 ls [.int x] h = some (some (.int x), h) := e_rtZ dL_law_1039 rfl hx
theorem wL_law_1040 : E_ d mL_law 1040 [s0, .val (.ref a), s2, s3] st h = E_ d mL_law 1041 [s0, .val (.ref a), s2, s3] (.ref a :: st) h := e_go dL_law_1040 rfl rfl
theorem wL_law_1041 : E_ d mL_law 1041 [.val (.ref a), s1, s2, s3] st h = E_ d mL_law 1042 [.val (.ref a), s1, s2, s3] (.ref a :: st) h := e_go dL_law_1041 rfl rfl
theorem wL_law_1042 : E_ d mL_law 1042 [s0, s1, s2, .val (.int x)] st h = E_ d mL_law 1043 [s0, s1, s2, .val (.int x)] (.int x :: st) h := e_go dL_law_1042 rfl rfl
theorem wL_law_1043 : E_ d mL_law 1043 ls st h = E_ d mL_law 1044 ls (.int (nI 1) :: st) h := e_iconst dL_law_1043 kiconst_1 rfl
theorem wL_law_1044 : E_ d mL_law 1044 ls (.int y :: .int x :: st) h = E_ d mL_law 1045 ls (.int (x + y) :: st) h := e_go dL_law_1044 rfl rfl
theorem wL_law_1045 (ht : oT h a = 39) (hi : xix x (oN h a) = true) : E_ d mL_law 1045 ls (.int x :: .ref a :: st) h = E_ d mL_law 1046 ls (.int (oI h a x.toNatClampNeg) :: st) h := e_iald9 dL_law_1045 rfl ht hi
theorem wL_law_1046 : E_ d mL_law 1046 [.val (.ref a), s1, s2, s3] st h = E_ d mL_law 1047 [.val (.ref a), s1, s2, s3] (.ref a :: st) h := e_go dL_law_1046 rfl rfl
theorem wL_law_1047 : E_ d mL_law 1047 [s0, s1, s2, .val (.int x)] st h = E_ d mL_law 1048 [s0, s1, s2, .val (.int x)] (.int x :: st) h := e_go dL_law_1047 rfl rfl
theorem wL_law_1048 : E_ d mL_law 1048 ls st h = E_ d mL_law 1049 ls (.int (nI 2) :: st) h := e_iconst dL_law_1048 kiconst_2 rfl
theorem wL_law_1049 : E_ d mL_law 1049 ls (.int y :: .int x :: st) h = E_ d mL_law 1050 ls (.int (x + y) :: st) h := e_go dL_law_1049 rfl rfl
theorem wL_law_1050 (ht : oT h a = 39) (hi : xix x (oN h a) = true) : E_ d mL_law 1050 ls (.int x :: .ref a :: st) h = E_ d mL_law 1051 ls (.int (oI h a x.toNatClampNeg) :: st) h := e_iald9 dL_law_1050 rfl ht hi
theorem wL_law_1051 (ht : oT h a = 1) : E_ (d + 1) mL_law 1051 ls [.int x2, .int x1, .ref a] h = (C_ d mX0_at [.ref a, .int x1, .int x2] h).bind fun r => E_ (d + 1) mL_law 1054 ls (xpu r.1 []) r.2 := e_vir dL_law_1051 rfl rfl rfl rfl rfl rfl (Nat.le_of_ble_eq_true rfl) (Nat.le_of_ble_eq_true rfl) ht
theorem wL_law_1054 : E_ d mL_law 1054 [s0, s1, .val (.ref a), s3] st h = E_ d mL_law 1055 [s0, s1, .val (.ref a), s3] (.ref a :: st) h := e_go dL_law_1054 rfl rfl
theorem wL_law_1055 : E_ d mL_law 1055 [.val (.ref a), s1, s2, s3] st h = E_ d mL_law 1056 [.val (.ref a), s1, s2, s3] (.ref a :: st) h := e_go dL_law_1055 rfl rfl
theorem wL_law_1056 : E_ d mL_law 1056 [s0, s1, s2, .val (.int x)] st h = E_ d mL_law 1057 [s0, s1, s2, .val (.int x)] (.int x :: st) h := e_go dL_law_1056 rfl rfl
theorem wL_law_1057 : E_ d mL_law 1057 ls st h = E_ d mL_law 1058 ls (.int (nI 1) :: st) h := e_iconst dL_law_1057 kiconst_1 rfl
theorem wL_law_1058 : E_ d mL_law 1058 ls (.int y :: .int x :: st) h = E_ d mL_law 1059 ls (.int (x + y) :: st) h := e_go dL_law_1058 rfl rfl
theorem wL_law_1059 (ht : oT h a = 39) (hi : xix x (oN h a) = true) : E_ d mL_law 1059 ls (.int x :: .ref a :: st) h = E_ d mL_law 1060 ls (.int (oI h a x.toNatClampNeg) :: st) h := e_iald9 dL_law_1059 rfl ht hi
theorem wL_law_1060 : E_ d mL_law 1060 [.val (.ref a), s1, s2, s3] st h = E_ d mL_law 1061 [.val (.ref a), s1, s2, s3] (.ref a :: st) h := e_go dL_law_1060 rfl rfl
theorem wL_law_1061 : E_ d mL_law 1061 [s0, s1, s2, .val (.int x)] st h = E_ d mL_law 1062 [s0, s1, s2, .val (.int x)] (.int x :: st) h := e_go dL_law_1061 rfl rfl
theorem wL_law_1062 : E_ d mL_law 1062 ls st h = E_ d mL_law 1063 ls (.int (nI 2) :: st) h := e_iconst dL_law_1062 kiconst_2 rfl
theorem wL_law_1063 : E_ d mL_law 1063 ls (.int y :: .int x :: st) h = E_ d mL_law 1064 ls (.int (x + y) :: st) h := e_go dL_law_1063 rfl rfl
theorem wL_law_1064 (ht : oT h a = 39) (hi : xix x (oN h a) = true) : E_ d mL_law 1064 ls (.int x :: .ref a :: st) h = E_ d mL_law 1065 ls (.int (oI h a x.toNatClampNeg) :: st) h := e_iald9 dL_law_1064 rfl ht hi
theorem wL_law_1065 (ht : oT h a = 7) : E_ (d + 1) mL_law 1065 ls [.int x2, .int x1, .ref a, .int x3] h = (C_ d mX5_at [.ref a, .int x1, .int x2] h).bind fun r => E_ (d + 1) mL_law 1068 ls (xpu r.1 [.int x3]) r.2 := e_vir dL_law_1065 rfl rfl rfl rfl rfl rfl (Nat.le_of_ble_eq_true rfl) (Nat.le_of_ble_eq_true rfl) ht
theorem wL_law_1068 : E_ d mL_law 1068 ls (.int y :: .int x :: st) h = if x = y then E_ d mL_law 1989 ls st h else E_ d mL_law 1071 ls st h := e_ieq dL_law_1068 rfl rfl
theorem wL_law_1071 : E_ d mL_law 1071 ls st h = E_ d mL_law 1072 ls (.int (nI 0) :: st) h := e_iconst dL_law_1071 kiconst_0 rfl
theorem wL_law_1072 (hx : x = 0 ∨ x = 1) : E_ d mL_law 1072 ls [.int x] h = some (some (.int x), h) := e_rtZ dL_law_1072 rfl hx
theorem wL_law_1073 : E_ d mL_law 1073 [s0, .val (.ref a), s2, s3] st h = E_ d mL_law 1074 [s0, .val (.ref a), s2, s3] (.ref a :: st) h := e_go dL_law_1073 rfl rfl
theorem wL_law_1074 : E_ d mL_law 1074 [.val (.ref a), s1, s2, s3] st h = E_ d mL_law 1075 [.val (.ref a), s1, s2, s3] (.ref a :: st) h := e_go dL_law_1074 rfl rfl
theorem wL_law_1075 : E_ d mL_law 1075 [s0, s1, s2, .val (.int x)] st h = E_ d mL_law 1076 [s0, s1, s2, .val (.int x)] (.int x :: st) h := e_go dL_law_1075 rfl rfl
theorem wL_law_1076 : E_ d mL_law 1076 ls st h = E_ d mL_law 1077 ls (.int (nI 1) :: st) h := e_iconst dL_law_1076 kiconst_1 rfl
theorem wL_law_1077 : E_ d mL_law 1077 ls (.int y :: .int x :: st) h = E_ d mL_law 1078 ls (.int (x + y) :: st) h := e_go dL_law_1077 rfl rfl
theorem wL_law_1078 (ht : oT h a = 39) (hi : xix x (oN h a) = true) : E_ d mL_law 1078 ls (.int x :: .ref a :: st) h = E_ d mL_law 1079 ls (.int (oI h a x.toNatClampNeg) :: st) h := e_iald9 dL_law_1078 rfl ht hi
theorem wL_law_1079 : E_ d mL_law 1079 ls (.int x :: st) h = if x = 0 then E_ d mL_law 1086 ls st h else E_ d mL_law 1082 ls st h := e_zeq dL_law_1079 rfl rfl
theorem wL_law_1082 : E_ d mL_law 1082 ls st h = E_ d mL_law 1083 ls (.int (nI 1) :: st) h := e_iconst dL_law_1082 kiconst_1 rfl
theorem wL_law_1083 : E_ d mL_law 1083 ls st h = E_ d mL_law 1087 ls st h := e_gt dL_law_1083 rfl
theorem wL_law_1086 : E_ d mL_law 1086 ls st h = E_ d mL_law 1087 ls (.int (nI 0) :: st) h := e_iconst dL_law_1086 kiconst_0 rfl
theorem wL_law_1087 : E_ d mL_law 1087 [.val (.ref a), s1, s2, s3] st h = E_ d mL_law 1088 [.val (.ref a), s1, s2, s3] (.ref a :: st) h := e_go dL_law_1087 rfl rfl
theorem wL_law_1088 : E_ d mL_law 1088 [s0, s1, s2, .val (.int x)] st h = E_ d mL_law 1089 [s0, s1, s2, .val (.int x)] (.int x :: st) h := e_go dL_law_1088 rfl rfl
theorem wL_law_1089 : E_ d mL_law 1089 ls st h = E_ d mL_law 1090 ls (.int (nI 2) :: st) h := e_iconst dL_law_1089 kiconst_2 rfl
theorem wL_law_1090 : E_ d mL_law 1090 ls (.int y :: .int x :: st) h = E_ d mL_law 1091 ls (.int (x + y) :: st) h := e_go dL_law_1090 rfl rfl
theorem wL_law_1091 (ht : oT h a = 39) (hi : xix x (oN h a) = true) : E_ d mL_law 1091 ls (.int x :: .ref a :: st) h = E_ d mL_law 1092 ls (.int (oI h a x.toNatClampNeg) :: st) h := e_iald9 dL_law_1091 rfl ht hi
theorem wL_law_1092 (ht : oT h a = 1) : E_ (d + 1) mL_law 1092 ls [.int x2, .int x1, .ref a] h = (C_ d mX0_rate [.ref a, .int x1, .int x2] h).bind fun r => E_ (d + 1) mL_law 1095 ls (xpu r.1 []) r.2 := e_vir dL_law_1092 rfl rfl rfl rfl rfl rfl (Nat.le_of_ble_eq_true rfl) (Nat.le_of_ble_eq_true rfl) ht
theorem wL_law_1095 : E_ d mL_law 1095 [s0, s1, .val (.ref a), s3] st h = E_ d mL_law 1096 [s0, s1, .val (.ref a), s3] (.ref a :: st) h := e_go dL_law_1095 rfl rfl
theorem wL_law_1096 : E_ d mL_law 1096 [.val (.ref a), s1, s2, s3] st h = E_ d mL_law 1097 [.val (.ref a), s1, s2, s3] (.ref a :: st) h := e_go dL_law_1096 rfl rfl
theorem wL_law_1097 : E_ d mL_law 1097 [s0, s1, s2, .val (.int x)] st h = E_ d mL_law 1098 [s0, s1, s2, .val (.int x)] (.int x :: st) h := e_go dL_law_1097 rfl rfl
theorem wL_law_1098 : E_ d mL_law 1098 ls st h = E_ d mL_law 1099 ls (.int (nI 1) :: st) h := e_iconst dL_law_1098 kiconst_1 rfl
theorem wL_law_1099 : E_ d mL_law 1099 ls (.int y :: .int x :: st) h = E_ d mL_law 1100 ls (.int (x + y) :: st) h := e_go dL_law_1099 rfl rfl
theorem wL_law_1100 (ht : oT h a = 39) (hi : xix x (oN h a) = true) : E_ d mL_law 1100 ls (.int x :: .ref a :: st) h = E_ d mL_law 1101 ls (.int (oI h a x.toNatClampNeg) :: st) h := e_iald9 dL_law_1100 rfl ht hi
theorem wL_law_1101 : E_ d mL_law 1101 ls (.int x :: st) h = if x = 0 then E_ d mL_law 1108 ls st h else E_ d mL_law 1104 ls st h := e_zeq dL_law_1101 rfl rfl
theorem wL_law_1104 : E_ d mL_law 1104 ls st h = E_ d mL_law 1105 ls (.int (nI 1) :: st) h := e_iconst dL_law_1104 kiconst_1 rfl
theorem wL_law_1105 : E_ d mL_law 1105 ls st h = E_ d mL_law 1109 ls st h := e_gt dL_law_1105 rfl
theorem wL_law_1108 : E_ d mL_law 1108 ls st h = E_ d mL_law 1109 ls (.int (nI 0) :: st) h := e_iconst dL_law_1108 kiconst_0 rfl
theorem wL_law_1109 : E_ d mL_law 1109 [.val (.ref a), s1, s2, s3] st h = E_ d mL_law 1110 [.val (.ref a), s1, s2, s3] (.ref a :: st) h := e_go dL_law_1109 rfl rfl
theorem wL_law_1110 : E_ d mL_law 1110 [s0, s1, s2, .val (.int x)] st h = E_ d mL_law 1111 [s0, s1, s2, .val (.int x)] (.int x :: st) h := e_go dL_law_1110 rfl rfl
theorem wL_law_1111 : E_ d mL_law 1111 ls st h = E_ d mL_law 1112 ls (.int (nI 2) :: st) h := e_iconst dL_law_1111 kiconst_2 rfl
theorem wL_law_1112 : E_ d mL_law 1112 ls (.int y :: .int x :: st) h = E_ d mL_law 1113 ls (.int (x + y) :: st) h := e_go dL_law_1112 rfl rfl
theorem wL_law_1113 (ht : oT h a = 39) (hi : xix x (oN h a) = true) : E_ d mL_law 1113 ls (.int x :: .ref a :: st) h = E_ d mL_law 1114 ls (.int (oI h a x.toNatClampNeg) :: st) h := e_iald9 dL_law_1113 rfl ht hi
theorem wL_law_1114 (ht : oT h a = 7) : E_ (d + 1) mL_law 1114 ls [.int x2, .int x1, .ref a, .int x3] h = (C_ d mX5_rate [.ref a, .int x1, .int x2] h).bind fun r => E_ (d + 1) mL_law 1117 ls (xpu r.1 [.int x3]) r.2 := e_vir dL_law_1114 rfl rfl rfl rfl rfl rfl (Nat.le_of_ble_eq_true rfl) (Nat.le_of_ble_eq_true rfl) ht
theorem wL_law_1117 : E_ d mL_law 1117 ls (.int y :: .int x :: st) h = if x = y then E_ d mL_law 1989 ls st h else E_ d mL_law 1120 ls st h := e_ieq dL_law_1117 rfl rfl
theorem wL_law_1120 : E_ d mL_law 1120 ls st h = E_ d mL_law 1121 ls (.int (nI 0) :: st) h := e_iconst dL_law_1120 kiconst_0 rfl
theorem wL_law_1121 (hx : x = 0 ∨ x = 1) : E_ d mL_law 1121 ls [.int x] h = some (some (.int x), h) := e_rtZ dL_law_1121 rfl hx
theorem wL_law_1122 : E_ d mL_law 1122 [s0, .val (.ref a), s2, s3] st h = E_ d mL_law 1123 [s0, .val (.ref a), s2, s3] (.ref a :: st) h := e_go dL_law_1122 rfl rfl
theorem wL_law_1123 (ht : oT h a = 1) : E_ (d + 1) mL_law 1123 ls [.ref a] h = (C_ d mX0_parted [.ref a] h).bind fun r => E_ (d + 1) mL_law 1126 ls (xpu r.1 []) r.2 := e_vir dL_law_1123 rfl rfl rfl rfl rfl rfl (Nat.le_of_ble_eq_true rfl) (Nat.le_of_ble_eq_true rfl) ht
theorem wL_law_1126 : E_ d mL_law 1126 [s0, s1, .val (.ref a), s3] st h = E_ d mL_law 1127 [s0, s1, .val (.ref a), s3] (.ref a :: st) h := e_go dL_law_1126 rfl rfl
theorem wL_law_1127 (ht : oT h a = 7) : E_ (d + 1) mL_law 1127 ls [.ref a, .int x1] h = (C_ d mX5_parted [.ref a] h).bind fun r => E_ (d + 1) mL_law 1130 ls (xpu r.1 [.int x1]) r.2 := e_vir dL_law_1127 rfl rfl rfl rfl rfl rfl (Nat.le_of_ble_eq_true rfl) (Nat.le_of_ble_eq_true rfl) ht
theorem wL_law_1130 : E_ d mL_law 1130 ls (.int y :: .int x :: st) h = if x = y then E_ d mL_law 1989 ls st h else E_ d mL_law 1133 ls st h := e_ieq dL_law_1130 rfl rfl
theorem wL_law_1133 : E_ d mL_law 1133 ls st h = E_ d mL_law 1134 ls (.int (nI 0) :: st) h := e_iconst dL_law_1133 kiconst_0 rfl
theorem wL_law_1134 (hx : x = 0 ∨ x = 1) : E_ d mL_law 1134 ls [.int x] h = some (some (.int x), h) := e_rtZ dL_law_1134 rfl hx
theorem wL_law_1135 : E_ d mL_law 1135 [s0, .val (.ref a), s2, s3] st h = E_ d mL_law 1136 [s0, .val (.ref a), s2, s3] (.ref a :: st) h := e_go dL_law_1135 rfl rfl
theorem wL_law_1136 : E_ d mL_law 1136 [.val (.ref a), s1, s2, s3] st h = E_ d mL_law 1137 [.val (.ref a), s1, s2, s3] (.ref a :: st) h := e_go dL_law_1136 rfl rfl
theorem wL_law_1137 : E_ d mL_law 1137 [s0, s1, s2, .val (.int x)] st h = E_ d mL_law 1138 [s0, s1, s2, .val (.int x)] (.int x :: st) h := e_go dL_law_1137 rfl rfl
theorem wL_law_1138 : E_ d mL_law 1138 ls st h = E_ d mL_law 1139 ls (.int (nI 1) :: st) h := e_iconst dL_law_1138 kiconst_1 rfl
theorem wL_law_1139 : E_ d mL_law 1139 ls (.int y :: .int x :: st) h = E_ d mL_law 1140 ls (.int (x + y) :: st) h := e_go dL_law_1139 rfl rfl
theorem wL_law_1140 (ht : oT h a = 39) (hi : xix x (oN h a) = true) : E_ d mL_law 1140 ls (.int x :: .ref a :: st) h = E_ d mL_law 1141 ls (.int (oI h a x.toNatClampNeg) :: st) h := e_iald9 dL_law_1140 rfl ht hi
theorem wL_law_1141 : E_ d mL_law 1141 [.val (.ref a), s1, s2, s3] st h = E_ d mL_law 1142 [.val (.ref a), s1, s2, s3] (.ref a :: st) h := e_go dL_law_1141 rfl rfl
theorem wL_law_1142 : E_ d mL_law 1142 [s0, s1, s2, .val (.int x)] st h = E_ d mL_law 1143 [s0, s1, s2, .val (.int x)] (.int x :: st) h := e_go dL_law_1142 rfl rfl
theorem wL_law_1143 : E_ d mL_law 1143 ls st h = E_ d mL_law 1144 ls (.int (nI 2) :: st) h := e_iconst dL_law_1143 kiconst_2 rfl
theorem wL_law_1144 : E_ d mL_law 1144 ls (.int y :: .int x :: st) h = E_ d mL_law 1145 ls (.int (x + y) :: st) h := e_go dL_law_1144 rfl rfl
theorem wL_law_1145 (ht : oT h a = 39) (hi : xix x (oN h a) = true) : E_ d mL_law 1145 ls (.int x :: .ref a :: st) h = E_ d mL_law 1146 ls (.int (oI h a x.toNatClampNeg) :: st) h := e_iald9 dL_law_1145 rfl ht hi
theorem wL_law_1146 (ht : oT h a = 1) : E_ (d + 1) mL_law 1146 ls [.int x2, .int x1, .ref a] h = (C_ d mX0_worst [.ref a, .int x1, .int x2] h).bind fun r => E_ (d + 1) mL_law 1149 ls (xpu r.1 []) r.2 := e_vir dL_law_1146 rfl rfl rfl rfl rfl rfl (Nat.le_of_ble_eq_true rfl) (Nat.le_of_ble_eq_true rfl) ht
theorem wL_law_1149 : E_ d mL_law 1149 [s0, s1, .val (.ref a), s3] st h = E_ d mL_law 1150 [s0, s1, .val (.ref a), s3] (.ref a :: st) h := e_go dL_law_1149 rfl rfl
theorem wL_law_1150 : E_ d mL_law 1150 [.val (.ref a), s1, s2, s3] st h = E_ d mL_law 1151 [.val (.ref a), s1, s2, s3] (.ref a :: st) h := e_go dL_law_1150 rfl rfl
theorem wL_law_1151 : E_ d mL_law 1151 [s0, s1, s2, .val (.int x)] st h = E_ d mL_law 1152 [s0, s1, s2, .val (.int x)] (.int x :: st) h := e_go dL_law_1151 rfl rfl
theorem wL_law_1152 : E_ d mL_law 1152 ls st h = E_ d mL_law 1153 ls (.int (nI 1) :: st) h := e_iconst dL_law_1152 kiconst_1 rfl
theorem wL_law_1153 : E_ d mL_law 1153 ls (.int y :: .int x :: st) h = E_ d mL_law 1154 ls (.int (x + y) :: st) h := e_go dL_law_1153 rfl rfl
theorem wL_law_1154 (ht : oT h a = 39) (hi : xix x (oN h a) = true) : E_ d mL_law 1154 ls (.int x :: .ref a :: st) h = E_ d mL_law 1155 ls (.int (oI h a x.toNatClampNeg) :: st) h := e_iald9 dL_law_1154 rfl ht hi
theorem wL_law_1155 : E_ d mL_law 1155 [.val (.ref a), s1, s2, s3] st h = E_ d mL_law 1156 [.val (.ref a), s1, s2, s3] (.ref a :: st) h := e_go dL_law_1155 rfl rfl
theorem wL_law_1156 : E_ d mL_law 1156 [s0, s1, s2, .val (.int x)] st h = E_ d mL_law 1157 [s0, s1, s2, .val (.int x)] (.int x :: st) h := e_go dL_law_1156 rfl rfl
theorem wL_law_1157 : E_ d mL_law 1157 ls st h = E_ d mL_law 1158 ls (.int (nI 2) :: st) h := e_iconst dL_law_1157 kiconst_2 rfl
theorem wL_law_1158 : E_ d mL_law 1158 ls (.int y :: .int x :: st) h = E_ d mL_law 1159 ls (.int (x + y) :: st) h := e_go dL_law_1158 rfl rfl
theorem wL_law_1159 (ht : oT h a = 39) (hi : xix x (oN h a) = true) : E_ d mL_law 1159 ls (.int x :: .ref a :: st) h = E_ d mL_law 1160 ls (.int (oI h a x.toNatClampNeg) :: st) h := e_iald9 dL_law_1159 rfl ht hi
theorem wL_law_1160 (ht : oT h a = 7) : E_ (d + 1) mL_law 1160 ls [.int x2, .int x1, .ref a, .int x3] h = (C_ d mX5_worst [.ref a, .int x1, .int x2] h).bind fun r => E_ (d + 1) mL_law 1163 ls (xpu r.1 [.int x3]) r.2 := e_vir dL_law_1160 rfl rfl rfl rfl rfl rfl (Nat.le_of_ble_eq_true rfl) (Nat.le_of_ble_eq_true rfl) ht
theorem wL_law_1163 : E_ d mL_law 1163 ls (.int y :: .int x :: st) h = if x = y then E_ d mL_law 1989 ls st h else E_ d mL_law 1166 ls st h := e_ieq dL_law_1163 rfl rfl
theorem wL_law_1166 : E_ d mL_law 1166 ls st h = E_ d mL_law 1167 ls (.int (nI 0) :: st) h := e_iconst dL_law_1166 kiconst_0 rfl
theorem wL_law_1167 (hx : x = 0 ∨ x = 1) : E_ d mL_law 1167 ls [.int x] h = some (some (.int x), h) := e_rtZ dL_law_1167 rfl hx
theorem wL_law_1168 : E_ d mL_law 1168 [s0, .val (.ref a), s2, s3] st h = E_ d mL_law 1169 [s0, .val (.ref a), s2, s3] (.ref a :: st) h := e_go dL_law_1168 rfl rfl
theorem wL_law_1169 : E_ d mL_law 1169 [.val (.ref a), s1, s2, s3] st h = E_ d mL_law 1170 [.val (.ref a), s1, s2, s3] (.ref a :: st) h := e_go dL_law_1169 rfl rfl
theorem wL_law_1170 : E_ d mL_law 1170 [s0, s1, s2, .val (.int x)] st h = E_ d mL_law 1171 [s0, s1, s2, .val (.int x)] (.int x :: st) h := e_go dL_law_1170 rfl rfl
theorem wL_law_1171 : E_ d mL_law 1171 ls st h = E_ d mL_law 1172 ls (.int (nI 1) :: st) h := e_iconst dL_law_1171 kiconst_1 rfl
theorem wL_law_1172 : E_ d mL_law 1172 ls (.int y :: .int x :: st) h = E_ d mL_law 1173 ls (.int (x + y) :: st) h := e_go dL_law_1172 rfl rfl
theorem wL_law_1173 (ht : oT h a = 39) (hi : xix x (oN h a) = true) : E_ d mL_law 1173 ls (.int x :: .ref a :: st) h = E_ d mL_law 1174 ls (.int (oI h a x.toNatClampNeg) :: st) h := e_iald9 dL_law_1173 rfl ht hi
theorem wL_law_1174 (ht : oT h a = 1) : E_ (d + 1) mL_law 1174 ls [.int x1, .ref a] h = (C_ d mX0_ranked [.ref a, .int x1] h).bind fun r => E_ (d + 1) mL_law 1177 ls (xpu r.1 []) r.2 := e_vir dL_law_1174 rfl rfl rfl rfl rfl rfl (Nat.le_of_ble_eq_true rfl) (Nat.le_of_ble_eq_true rfl) ht
theorem wL_law_1177 : E_ d mL_law 1177 [s0, s1, .val (.ref a), s3] st h = E_ d mL_law 1178 [s0, s1, .val (.ref a), s3] (.ref a :: st) h := e_go dL_law_1177 rfl rfl
theorem wL_law_1178 : E_ d mL_law 1178 [.val (.ref a), s1, s2, s3] st h = E_ d mL_law 1179 [.val (.ref a), s1, s2, s3] (.ref a :: st) h := e_go dL_law_1178 rfl rfl
theorem wL_law_1179 : E_ d mL_law 1179 [s0, s1, s2, .val (.int x)] st h = E_ d mL_law 1180 [s0, s1, s2, .val (.int x)] (.int x :: st) h := e_go dL_law_1179 rfl rfl
theorem wL_law_1180 : E_ d mL_law 1180 ls st h = E_ d mL_law 1181 ls (.int (nI 1) :: st) h := e_iconst dL_law_1180 kiconst_1 rfl
theorem wL_law_1181 : E_ d mL_law 1181 ls (.int y :: .int x :: st) h = E_ d mL_law 1182 ls (.int (x + y) :: st) h := e_go dL_law_1181 rfl rfl
theorem wL_law_1182 (ht : oT h a = 39) (hi : xix x (oN h a) = true) : E_ d mL_law 1182 ls (.int x :: .ref a :: st) h = E_ d mL_law 1183 ls (.int (oI h a x.toNatClampNeg) :: st) h := e_iald9 dL_law_1182 rfl ht hi
theorem wL_law_1183 (ht : oT h a = 7) : E_ (d + 1) mL_law 1183 ls [.int x1, .ref a, .int x2] h = (C_ d mX5_ranked [.ref a, .int x1] h).bind fun r => E_ (d + 1) mL_law 1186 ls (xpu r.1 [.int x2]) r.2 := e_vir dL_law_1183 rfl rfl rfl rfl rfl rfl (Nat.le_of_ble_eq_true rfl) (Nat.le_of_ble_eq_true rfl) ht
theorem wL_law_1186 : E_ d mL_law 1186 ls (.int y :: .int x :: st) h = if x = y then E_ d mL_law 1989 ls st h else E_ d mL_law 1189 ls st h := e_ieq dL_law_1186 rfl rfl
theorem wL_law_1189 : E_ d mL_law 1189 ls st h = E_ d mL_law 1190 ls (.int (nI 0) :: st) h := e_iconst dL_law_1189 kiconst_0 rfl
theorem wL_law_1190 (hx : x = 0 ∨ x = 1) : E_ d mL_law 1190 ls [.int x] h = some (some (.int x), h) := e_rtZ dL_law_1190 rfl hx
theorem wL_law_1191 : E_ d mL_law 1191 [s0, .val (.ref a), s2, s3] st h = E_ d mL_law 1192 [s0, .val (.ref a), s2, s3] (.ref a :: st) h := e_go dL_law_1191 rfl rfl
theorem wL_law_1192 : E_ d mL_law 1192 [.val (.ref a), s1, s2, s3] st h = E_ d mL_law 1193 [.val (.ref a), s1, s2, s3] (.ref a :: st) h := e_go dL_law_1192 rfl rfl
theorem wL_law_1193 : E_ d mL_law 1193 [s0, s1, s2, .val (.int x)] st h = E_ d mL_law 1194 [s0, s1, s2, .val (.int x)] (.int x :: st) h := e_go dL_law_1193 rfl rfl
theorem wL_law_1194 : E_ d mL_law 1194 ls st h = E_ d mL_law 1195 ls (.int (nI 1) :: st) h := e_iconst dL_law_1194 kiconst_1 rfl
theorem wL_law_1195 : E_ d mL_law 1195 ls (.int y :: .int x :: st) h = E_ d mL_law 1196 ls (.int (x + y) :: st) h := e_go dL_law_1195 rfl rfl
theorem wL_law_1196 (ht : oT h a = 39) (hi : xix x (oN h a) = true) : E_ d mL_law 1196 ls (.int x :: .ref a :: st) h = E_ d mL_law 1197 ls (.int (oI h a x.toNatClampNeg) :: st) h := e_iald9 dL_law_1196 rfl ht hi
theorem wL_law_1197 : E_ d mL_law 1197 [.val (.ref a), s1, s2, s3] st h = E_ d mL_law 1198 [.val (.ref a), s1, s2, s3] (.ref a :: st) h := e_go dL_law_1197 rfl rfl
theorem wL_law_1198 : E_ d mL_law 1198 [s0, s1, s2, .val (.int x)] st h = E_ d mL_law 1199 [s0, s1, s2, .val (.int x)] (.int x :: st) h := e_go dL_law_1198 rfl rfl
theorem wL_law_1199 : E_ d mL_law 1199 ls st h = E_ d mL_law 1200 ls (.int (nI 2) :: st) h := e_iconst dL_law_1199 kiconst_2 rfl
theorem wL_law_1200 : E_ d mL_law 1200 ls (.int y :: .int x :: st) h = E_ d mL_law 1201 ls (.int (x + y) :: st) h := e_go dL_law_1200 rfl rfl
theorem wL_law_1201 (ht : oT h a = 39) (hi : xix x (oN h a) = true) : E_ d mL_law 1201 ls (.int x :: .ref a :: st) h = E_ d mL_law 1202 ls (.int (oI h a x.toNatClampNeg) :: st) h := e_iald9 dL_law_1201 rfl ht hi
theorem wL_law_1202 : E_ d mL_law 1202 [.val (.ref a), s1, s2, s3] st h = E_ d mL_law 1203 [.val (.ref a), s1, s2, s3] (.ref a :: st) h := e_go dL_law_1202 rfl rfl
theorem wL_law_1203 : E_ d mL_law 1203 [s0, s1, s2, .val (.int x)] st h = E_ d mL_law 1204 [s0, s1, s2, .val (.int x)] (.int x :: st) h := e_go dL_law_1203 rfl rfl
theorem wL_law_1204 : E_ d mL_law 1204 ls st h = E_ d mL_law 1205 ls (.int (nI 3) :: st) h := e_iconst dL_law_1204 kiconst_3 rfl
theorem wL_law_1205 : E_ d mL_law 1205 ls (.int y :: .int x :: st) h = E_ d mL_law 1206 ls (.int (x + y) :: st) h := e_go dL_law_1205 rfl rfl
theorem wL_law_1206 (ht : oT h a = 39) (hi : xix x (oN h a) = true) : E_ d mL_law 1206 ls (.int x :: .ref a :: st) h = E_ d mL_law 1207 ls (.int (oI h a x.toNatClampNeg) :: st) h := e_iald9 dL_law_1206 rfl ht hi
theorem wL_law_1207 (ht : oT h a = 1) : E_ (d + 1) mL_law 1207 ls [.int x3, .int x2, .int x1, .ref a] h = (C_ d mX0_measure [.ref a, .int x1, .int x2, .int x3] h).bind fun r => E_ (d + 1) mL_law 1210 ls (xpu r.1 []) r.2 := e_vir dL_law_1207 rfl rfl rfl rfl rfl rfl (Nat.le_of_ble_eq_true rfl) (Nat.le_of_ble_eq_true rfl) ht
theorem wL_law_1210 : E_ d mL_law 1210 [s0, s1, .val (.ref a), s3] st h = E_ d mL_law 1211 [s0, s1, .val (.ref a), s3] (.ref a :: st) h := e_go dL_law_1210 rfl rfl
theorem wL_law_1211 : E_ d mL_law 1211 [.val (.ref a), s1, s2, s3] st h = E_ d mL_law 1212 [.val (.ref a), s1, s2, s3] (.ref a :: st) h := e_go dL_law_1211 rfl rfl
theorem wL_law_1212 : E_ d mL_law 1212 [s0, s1, s2, .val (.int x)] st h = E_ d mL_law 1213 [s0, s1, s2, .val (.int x)] (.int x :: st) h := e_go dL_law_1212 rfl rfl
theorem wL_law_1213 : E_ d mL_law 1213 ls st h = E_ d mL_law 1214 ls (.int (nI 1) :: st) h := e_iconst dL_law_1213 kiconst_1 rfl
theorem wL_law_1214 : E_ d mL_law 1214 ls (.int y :: .int x :: st) h = E_ d mL_law 1215 ls (.int (x + y) :: st) h := e_go dL_law_1214 rfl rfl
theorem wL_law_1215 (ht : oT h a = 39) (hi : xix x (oN h a) = true) : E_ d mL_law 1215 ls (.int x :: .ref a :: st) h = E_ d mL_law 1216 ls (.int (oI h a x.toNatClampNeg) :: st) h := e_iald9 dL_law_1215 rfl ht hi
theorem wL_law_1216 : E_ d mL_law 1216 [.val (.ref a), s1, s2, s3] st h = E_ d mL_law 1217 [.val (.ref a), s1, s2, s3] (.ref a :: st) h := e_go dL_law_1216 rfl rfl
theorem wL_law_1217 : E_ d mL_law 1217 [s0, s1, s2, .val (.int x)] st h = E_ d mL_law 1218 [s0, s1, s2, .val (.int x)] (.int x :: st) h := e_go dL_law_1217 rfl rfl
theorem wL_law_1218 : E_ d mL_law 1218 ls st h = E_ d mL_law 1219 ls (.int (nI 2) :: st) h := e_iconst dL_law_1218 kiconst_2 rfl
theorem wL_law_1219 : E_ d mL_law 1219 ls (.int y :: .int x :: st) h = E_ d mL_law 1220 ls (.int (x + y) :: st) h := e_go dL_law_1219 rfl rfl
theorem wL_law_1220 (ht : oT h a = 39) (hi : xix x (oN h a) = true) : E_ d mL_law 1220 ls (.int x :: .ref a :: st) h = E_ d mL_law 1221 ls (.int (oI h a x.toNatClampNeg) :: st) h := e_iald9 dL_law_1220 rfl ht hi
theorem wL_law_1221 : E_ d mL_law 1221 [.val (.ref a), s1, s2, s3] st h = E_ d mL_law 1222 [.val (.ref a), s1, s2, s3] (.ref a :: st) h := e_go dL_law_1221 rfl rfl
theorem wL_law_1222 : E_ d mL_law 1222 [s0, s1, s2, .val (.int x)] st h = E_ d mL_law 1223 [s0, s1, s2, .val (.int x)] (.int x :: st) h := e_go dL_law_1222 rfl rfl
theorem wL_law_1223 : E_ d mL_law 1223 ls st h = E_ d mL_law 1224 ls (.int (nI 3) :: st) h := e_iconst dL_law_1223 kiconst_3 rfl
theorem wL_law_1224 : E_ d mL_law 1224 ls (.int y :: .int x :: st) h = E_ d mL_law 1225 ls (.int (x + y) :: st) h := e_go dL_law_1224 rfl rfl
theorem wL_law_1225 (ht : oT h a = 39) (hi : xix x (oN h a) = true) : E_ d mL_law 1225 ls (.int x :: .ref a :: st) h = E_ d mL_law 1226 ls (.int (oI h a x.toNatClampNeg) :: st) h := e_iald9 dL_law_1225 rfl ht hi
theorem wL_law_1226 (ht : oT h a = 7) : E_ (d + 1) mL_law 1226 ls [.int x3, .int x2, .int x1, .ref a, .int x4] h = (C_ d mX5_measure [.ref a, .int x1, .int x2, .int x3] h).bind fun r => E_ (d + 1) mL_law 1229 ls (xpu r.1 [.int x4]) r.2 := e_vir dL_law_1226 rfl rfl rfl rfl rfl rfl (Nat.le_of_ble_eq_true rfl) (Nat.le_of_ble_eq_true rfl) ht
theorem wL_law_1229 : E_ d mL_law 1229 ls (.int y :: .int x :: st) h = if x = y then E_ d mL_law 1989 ls st h else E_ d mL_law 1232 ls st h := e_ieq dL_law_1229 rfl rfl
theorem wL_law_1232 : E_ d mL_law 1232 ls st h = E_ d mL_law 1233 ls (.int (nI 0) :: st) h := e_iconst dL_law_1232 kiconst_0 rfl
theorem wL_law_1233 (hx : x = 0 ∨ x = 1) : E_ d mL_law 1233 ls [.int x] h = some (some (.int x), h) := e_rtZ dL_law_1233 rfl hx
theorem wL_law_1234 : E_ d mL_law 1234 [s0, .val (.ref a), s2, s3] st h = E_ d mL_law 1235 [s0, .val (.ref a), s2, s3] (.ref a :: st) h := e_go dL_law_1234 rfl rfl
theorem wL_law_1235 : E_ d mL_law 1235 [.val (.ref a), s1, s2, s3] st h = E_ d mL_law 1236 [.val (.ref a), s1, s2, s3] (.ref a :: st) h := e_go dL_law_1235 rfl rfl
theorem wL_law_1236 : E_ d mL_law 1236 [s0, s1, s2, .val (.int x)] st h = E_ d mL_law 1237 [s0, s1, s2, .val (.int x)] (.int x :: st) h := e_go dL_law_1236 rfl rfl
theorem wL_law_1237 : E_ d mL_law 1237 ls st h = E_ d mL_law 1238 ls (.int (nI 1) :: st) h := e_iconst dL_law_1237 kiconst_1 rfl
theorem wL_law_1238 : E_ d mL_law 1238 ls (.int y :: .int x :: st) h = E_ d mL_law 1239 ls (.int (x + y) :: st) h := e_go dL_law_1238 rfl rfl
theorem wL_law_1239 (ht : oT h a = 39) (hi : xix x (oN h a) = true) : E_ d mL_law 1239 ls (.int x :: .ref a :: st) h = E_ d mL_law 1240 ls (.int (oI h a x.toNatClampNeg) :: st) h := e_iald9 dL_law_1239 rfl ht hi
theorem wL_law_1240 : E_ d mL_law 1240 [.val (.ref a), s1, s2, s3] st h = E_ d mL_law 1241 [.val (.ref a), s1, s2, s3] (.ref a :: st) h := e_go dL_law_1240 rfl rfl
theorem wL_law_1241 : E_ d mL_law 1241 [s0, s1, s2, .val (.int x)] st h = E_ d mL_law 1242 [s0, s1, s2, .val (.int x)] (.int x :: st) h := e_go dL_law_1241 rfl rfl
theorem wL_law_1242 : E_ d mL_law 1242 ls st h = E_ d mL_law 1243 ls (.int (nI 2) :: st) h := e_iconst dL_law_1242 kiconst_2 rfl
theorem wL_law_1243 : E_ d mL_law 1243 ls (.int y :: .int x :: st) h = E_ d mL_law 1244 ls (.int (x + y) :: st) h := e_go dL_law_1243 rfl rfl
theorem wL_law_1244 (ht : oT h a = 39) (hi : xix x (oN h a) = true) : E_ d mL_law 1244 ls (.int x :: .ref a :: st) h = E_ d mL_law 1245 ls (.int (oI h a x.toNatClampNeg) :: st) h := e_iald9 dL_law_1244 rfl ht hi
theorem wL_law_1245 (ht : oT h a = 1) : E_ (d + 1) mL_law 1245 ls [.int x2, .int x1, .ref a] h = (C_ d mX0_spent [.ref a, .int x1, .int x2] h).bind fun r => E_ (d + 1) mL_law 1248 ls (xpu r.1 []) r.2 := e_vir dL_law_1245 rfl rfl rfl rfl rfl rfl (Nat.le_of_ble_eq_true rfl) (Nat.le_of_ble_eq_true rfl) ht
theorem wL_law_1248 : E_ d mL_law 1248 [s0, s1, .val (.ref a), s3] st h = E_ d mL_law 1249 [s0, s1, .val (.ref a), s3] (.ref a :: st) h := e_go dL_law_1248 rfl rfl
theorem wL_law_1249 : E_ d mL_law 1249 [.val (.ref a), s1, s2, s3] st h = E_ d mL_law 1250 [.val (.ref a), s1, s2, s3] (.ref a :: st) h := e_go dL_law_1249 rfl rfl
theorem wL_law_1250 : E_ d mL_law 1250 [s0, s1, s2, .val (.int x)] st h = E_ d mL_law 1251 [s0, s1, s2, .val (.int x)] (.int x :: st) h := e_go dL_law_1250 rfl rfl
theorem wL_law_1251 : E_ d mL_law 1251 ls st h = E_ d mL_law 1252 ls (.int (nI 1) :: st) h := e_iconst dL_law_1251 kiconst_1 rfl
theorem wL_law_1252 : E_ d mL_law 1252 ls (.int y :: .int x :: st) h = E_ d mL_law 1253 ls (.int (x + y) :: st) h := e_go dL_law_1252 rfl rfl
theorem wL_law_1253 (ht : oT h a = 39) (hi : xix x (oN h a) = true) : E_ d mL_law 1253 ls (.int x :: .ref a :: st) h = E_ d mL_law 1254 ls (.int (oI h a x.toNatClampNeg) :: st) h := e_iald9 dL_law_1253 rfl ht hi
theorem wL_law_1254 : E_ d mL_law 1254 [.val (.ref a), s1, s2, s3] st h = E_ d mL_law 1255 [.val (.ref a), s1, s2, s3] (.ref a :: st) h := e_go dL_law_1254 rfl rfl
theorem wL_law_1255 : E_ d mL_law 1255 [s0, s1, s2, .val (.int x)] st h = E_ d mL_law 1256 [s0, s1, s2, .val (.int x)] (.int x :: st) h := e_go dL_law_1255 rfl rfl
theorem wL_law_1256 : E_ d mL_law 1256 ls st h = E_ d mL_law 1257 ls (.int (nI 2) :: st) h := e_iconst dL_law_1256 kiconst_2 rfl
theorem wL_law_1257 : E_ d mL_law 1257 ls (.int y :: .int x :: st) h = E_ d mL_law 1258 ls (.int (x + y) :: st) h := e_go dL_law_1257 rfl rfl
theorem wL_law_1258 (ht : oT h a = 39) (hi : xix x (oN h a) = true) : E_ d mL_law 1258 ls (.int x :: .ref a :: st) h = E_ d mL_law 1259 ls (.int (oI h a x.toNatClampNeg) :: st) h := e_iald9 dL_law_1258 rfl ht hi
theorem wL_law_1259 (ht : oT h a = 7) : E_ (d + 1) mL_law 1259 ls [.int x2, .int x1, .ref a, .int x3] h = (C_ d mX5_spent [.ref a, .int x1, .int x2] h).bind fun r => E_ (d + 1) mL_law 1262 ls (xpu r.1 [.int x3]) r.2 := e_vir dL_law_1259 rfl rfl rfl rfl rfl rfl (Nat.le_of_ble_eq_true rfl) (Nat.le_of_ble_eq_true rfl) ht
theorem wL_law_1262 : E_ d mL_law 1262 ls (.int y :: .int x :: st) h = if x = y then E_ d mL_law 1989 ls st h else E_ d mL_law 1265 ls st h := e_ieq dL_law_1262 rfl rfl
theorem wL_law_1265 : E_ d mL_law 1265 ls st h = E_ d mL_law 1266 ls (.int (nI 0) :: st) h := e_iconst dL_law_1265 kiconst_0 rfl
theorem wL_law_1266 (hx : x = 0 ∨ x = 1) : E_ d mL_law 1266 ls [.int x] h = some (some (.int x), h) := e_rtZ dL_law_1266 rfl hx
theorem wL_law_1267 : E_ d mL_law 1267 [s0, .val (.ref a), s2, s3] st h = E_ d mL_law 1268 [s0, .val (.ref a), s2, s3] (.ref a :: st) h := e_go dL_law_1267 rfl rfl
theorem wL_law_1268 : E_ d mL_law 1268 [.val (.ref a), s1, s2, s3] st h = E_ d mL_law 1269 [.val (.ref a), s1, s2, s3] (.ref a :: st) h := e_go dL_law_1268 rfl rfl
theorem wL_law_1269 : E_ d mL_law 1269 [s0, s1, s2, .val (.int x)] st h = E_ d mL_law 1270 [s0, s1, s2, .val (.int x)] (.int x :: st) h := e_go dL_law_1269 rfl rfl
theorem wL_law_1270 : E_ d mL_law 1270 ls st h = E_ d mL_law 1271 ls (.int (nI 1) :: st) h := e_iconst dL_law_1270 kiconst_1 rfl
theorem wL_law_1271 : E_ d mL_law 1271 ls (.int y :: .int x :: st) h = E_ d mL_law 1272 ls (.int (x + y) :: st) h := e_go dL_law_1271 rfl rfl
theorem wL_law_1272 (ht : oT h a = 39) (hi : xix x (oN h a) = true) : E_ d mL_law 1272 ls (.int x :: .ref a :: st) h = E_ d mL_law 1273 ls (.int (oI h a x.toNatClampNeg) :: st) h := e_iald9 dL_law_1272 rfl ht hi
theorem wL_law_1273 : E_ d mL_law 1273 [.val (.ref a), s1, s2, s3] st h = E_ d mL_law 1274 [.val (.ref a), s1, s2, s3] (.ref a :: st) h := e_go dL_law_1273 rfl rfl
theorem wL_law_1274 : E_ d mL_law 1274 [s0, s1, s2, .val (.int x)] st h = E_ d mL_law 1275 [s0, s1, s2, .val (.int x)] (.int x :: st) h := e_go dL_law_1274 rfl rfl
theorem wL_law_1275 : E_ d mL_law 1275 ls st h = E_ d mL_law 1276 ls (.int (nI 2) :: st) h := e_iconst dL_law_1275 kiconst_2 rfl
theorem wL_law_1276 : E_ d mL_law 1276 ls (.int y :: .int x :: st) h = E_ d mL_law 1277 ls (.int (x + y) :: st) h := e_go dL_law_1276 rfl rfl
theorem wL_law_1277 (ht : oT h a = 39) (hi : xix x (oN h a) = true) : E_ d mL_law 1277 ls (.int x :: .ref a :: st) h = E_ d mL_law 1278 ls (.int (oI h a x.toNatClampNeg) :: st) h := e_iald9 dL_law_1277 rfl ht hi
theorem wL_law_1278 : E_ d mL_law 1278 [.val (.ref a), s1, s2, s3] st h = E_ d mL_law 1279 [.val (.ref a), s1, s2, s3] (.ref a :: st) h := e_go dL_law_1278 rfl rfl
theorem wL_law_1279 : E_ d mL_law 1279 [s0, s1, s2, .val (.int x)] st h = E_ d mL_law 1280 [s0, s1, s2, .val (.int x)] (.int x :: st) h := e_go dL_law_1279 rfl rfl
theorem wL_law_1280 : E_ d mL_law 1280 ls st h = E_ d mL_law 1281 ls (.int (nI 3) :: st) h := e_iconst dL_law_1280 kiconst_3 rfl
theorem wL_law_1281 : E_ d mL_law 1281 ls (.int y :: .int x :: st) h = E_ d mL_law 1282 ls (.int (x + y) :: st) h := e_go dL_law_1281 rfl rfl
theorem wL_law_1282 (ht : oT h a = 39) (hi : xix x (oN h a) = true) : E_ d mL_law 1282 ls (.int x :: .ref a :: st) h = E_ d mL_law 1283 ls (.int (oI h a x.toNatClampNeg) :: st) h := e_iald9 dL_law_1282 rfl ht hi
theorem wL_law_1283 : E_ d mL_law 1283 [.val (.ref a), s1, s2, s3] st h = E_ d mL_law 1284 [.val (.ref a), s1, s2, s3] (.ref a :: st) h := e_go dL_law_1283 rfl rfl
theorem wL_law_1284 : E_ d mL_law 1284 [s0, s1, s2, .val (.int x)] st h = E_ d mL_law 1285 [s0, s1, s2, .val (.int x)] (.int x :: st) h := e_go dL_law_1284 rfl rfl
theorem wL_law_1285 : E_ d mL_law 1285 ls st h = E_ d mL_law 1286 ls (.int (nI 4) :: st) h := e_iconst dL_law_1285 kiconst_4 rfl
theorem wL_law_1286 : E_ d mL_law 1286 ls (.int y :: .int x :: st) h = E_ d mL_law 1287 ls (.int (x + y) :: st) h := e_go dL_law_1286 rfl rfl
theorem wL_law_1287 (ht : oT h a = 39) (hi : xix x (oN h a) = true) : E_ d mL_law 1287 ls (.int x :: .ref a :: st) h = E_ d mL_law 1288 ls (.int (oI h a x.toNatClampNeg) :: st) h := e_iald9 dL_law_1287 rfl ht hi
theorem wL_law_1288 (ht : oT h a = 1) : E_ (d + 1) mL_law 1288 ls [.int x4, .int x3, .int x2, .int x1, .ref a] h = (C_ d mX0_fine [.ref a, .int x1, .int x2, .int x3, .int x4] h).bind fun r => E_ (d + 1) mL_law 1291 ls (xpu r.1 []) r.2 := e_vir dL_law_1288 rfl rfl rfl rfl rfl rfl (Nat.le_of_ble_eq_true rfl) (Nat.le_of_ble_eq_true rfl) ht
theorem wL_law_1291 : E_ d mL_law 1291 [s0, s1, .val (.ref a), s3] st h = E_ d mL_law 1292 [s0, s1, .val (.ref a), s3] (.ref a :: st) h := e_go dL_law_1291 rfl rfl
theorem wL_law_1292 : E_ d mL_law 1292 [.val (.ref a), s1, s2, s3] st h = E_ d mL_law 1293 [.val (.ref a), s1, s2, s3] (.ref a :: st) h := e_go dL_law_1292 rfl rfl
theorem wL_law_1293 : E_ d mL_law 1293 [s0, s1, s2, .val (.int x)] st h = E_ d mL_law 1294 [s0, s1, s2, .val (.int x)] (.int x :: st) h := e_go dL_law_1293 rfl rfl
theorem wL_law_1294 : E_ d mL_law 1294 ls st h = E_ d mL_law 1295 ls (.int (nI 1) :: st) h := e_iconst dL_law_1294 kiconst_1 rfl
theorem wL_law_1295 : E_ d mL_law 1295 ls (.int y :: .int x :: st) h = E_ d mL_law 1296 ls (.int (x + y) :: st) h := e_go dL_law_1295 rfl rfl
theorem wL_law_1296 (ht : oT h a = 39) (hi : xix x (oN h a) = true) : E_ d mL_law 1296 ls (.int x :: .ref a :: st) h = E_ d mL_law 1297 ls (.int (oI h a x.toNatClampNeg) :: st) h := e_iald9 dL_law_1296 rfl ht hi
theorem wL_law_1297 : E_ d mL_law 1297 [.val (.ref a), s1, s2, s3] st h = E_ d mL_law 1298 [.val (.ref a), s1, s2, s3] (.ref a :: st) h := e_go dL_law_1297 rfl rfl
theorem wL_law_1298 : E_ d mL_law 1298 [s0, s1, s2, .val (.int x)] st h = E_ d mL_law 1299 [s0, s1, s2, .val (.int x)] (.int x :: st) h := e_go dL_law_1298 rfl rfl
theorem wL_law_1299 : E_ d mL_law 1299 ls st h = E_ d mL_law 1300 ls (.int (nI 2) :: st) h := e_iconst dL_law_1299 kiconst_2 rfl
theorem wL_law_1300 : E_ d mL_law 1300 ls (.int y :: .int x :: st) h = E_ d mL_law 1301 ls (.int (x + y) :: st) h := e_go dL_law_1300 rfl rfl
theorem wL_law_1301 (ht : oT h a = 39) (hi : xix x (oN h a) = true) : E_ d mL_law 1301 ls (.int x :: .ref a :: st) h = E_ d mL_law 1302 ls (.int (oI h a x.toNatClampNeg) :: st) h := e_iald9 dL_law_1301 rfl ht hi
theorem wL_law_1302 : E_ d mL_law 1302 [.val (.ref a), s1, s2, s3] st h = E_ d mL_law 1303 [.val (.ref a), s1, s2, s3] (.ref a :: st) h := e_go dL_law_1302 rfl rfl
theorem wL_law_1303 : E_ d mL_law 1303 [s0, s1, s2, .val (.int x)] st h = E_ d mL_law 1304 [s0, s1, s2, .val (.int x)] (.int x :: st) h := e_go dL_law_1303 rfl rfl
theorem wL_law_1304 : E_ d mL_law 1304 ls st h = E_ d mL_law 1305 ls (.int (nI 3) :: st) h := e_iconst dL_law_1304 kiconst_3 rfl
theorem wL_law_1305 : E_ d mL_law 1305 ls (.int y :: .int x :: st) h = E_ d mL_law 1306 ls (.int (x + y) :: st) h := e_go dL_law_1305 rfl rfl
theorem wL_law_1306 (ht : oT h a = 39) (hi : xix x (oN h a) = true) : E_ d mL_law 1306 ls (.int x :: .ref a :: st) h = E_ d mL_law 1307 ls (.int (oI h a x.toNatClampNeg) :: st) h := e_iald9 dL_law_1306 rfl ht hi
theorem wL_law_1307 : E_ d mL_law 1307 [.val (.ref a), s1, s2, s3] st h = E_ d mL_law 1308 [.val (.ref a), s1, s2, s3] (.ref a :: st) h := e_go dL_law_1307 rfl rfl
theorem wL_law_1308 : E_ d mL_law 1308 [s0, s1, s2, .val (.int x)] st h = E_ d mL_law 1309 [s0, s1, s2, .val (.int x)] (.int x :: st) h := e_go dL_law_1308 rfl rfl
theorem wL_law_1309 : E_ d mL_law 1309 ls st h = E_ d mL_law 1310 ls (.int (nI 4) :: st) h := e_iconst dL_law_1309 kiconst_4 rfl
theorem wL_law_1310 : E_ d mL_law 1310 ls (.int y :: .int x :: st) h = E_ d mL_law 1311 ls (.int (x + y) :: st) h := e_go dL_law_1310 rfl rfl
theorem wL_law_1311 (ht : oT h a = 39) (hi : xix x (oN h a) = true) : E_ d mL_law 1311 ls (.int x :: .ref a :: st) h = E_ d mL_law 1312 ls (.int (oI h a x.toNatClampNeg) :: st) h := e_iald9 dL_law_1311 rfl ht hi
theorem wL_law_1312 (ht : oT h a = 7) : E_ (d + 1) mL_law 1312 ls [.int x4, .int x3, .int x2, .int x1, .ref a, .int x5] h = (C_ d mX5_fine [.ref a, .int x1, .int x2, .int x3, .int x4] h).bind fun r => E_ (d + 1) mL_law 1315 ls (xpu r.1 [.int x5]) r.2 := e_vir dL_law_1312 rfl rfl rfl rfl rfl rfl (Nat.le_of_ble_eq_true rfl) (Nat.le_of_ble_eq_true rfl) ht
theorem wL_law_1315 : E_ d mL_law 1315 ls (.int y :: .int x :: st) h = if x = y then E_ d mL_law 1989 ls st h else E_ d mL_law 1318 ls st h := e_ieq dL_law_1315 rfl rfl
theorem wL_law_1318 : E_ d mL_law 1318 ls st h = E_ d mL_law 1319 ls (.int (nI 0) :: st) h := e_iconst dL_law_1318 kiconst_0 rfl
theorem wL_law_1319 (hx : x = 0 ∨ x = 1) : E_ d mL_law 1319 ls [.int x] h = some (some (.int x), h) := e_rtZ dL_law_1319 rfl hx
theorem wL_law_1320 : E_ d mL_law 1320 [s0, .val (.ref a), s2, s3] st h = E_ d mL_law 1321 [s0, .val (.ref a), s2, s3] (.ref a :: st) h := e_go dL_law_1320 rfl rfl
theorem wL_law_1321 : E_ d mL_law 1321 [.val (.ref a), s1, s2, s3] st h = E_ d mL_law 1322 [.val (.ref a), s1, s2, s3] (.ref a :: st) h := e_go dL_law_1321 rfl rfl
theorem wL_law_1322 : E_ d mL_law 1322 [s0, s1, s2, .val (.int x)] st h = E_ d mL_law 1323 [s0, s1, s2, .val (.int x)] (.int x :: st) h := e_go dL_law_1322 rfl rfl
theorem wL_law_1323 : E_ d mL_law 1323 ls st h = E_ d mL_law 1324 ls (.int (nI 1) :: st) h := e_iconst dL_law_1323 kiconst_1 rfl
theorem wL_law_1324 : E_ d mL_law 1324 ls (.int y :: .int x :: st) h = E_ d mL_law 1325 ls (.int (x + y) :: st) h := e_go dL_law_1324 rfl rfl
theorem wL_law_1325 (ht : oT h a = 39) (hi : xix x (oN h a) = true) : E_ d mL_law 1325 ls (.int x :: .ref a :: st) h = E_ d mL_law 1326 ls (.int (oI h a x.toNatClampNeg) :: st) h := e_iald9 dL_law_1325 rfl ht hi
theorem wL_law_1326 : E_ d mL_law 1326 [.val (.ref a), s1, s2, s3] st h = E_ d mL_law 1327 [.val (.ref a), s1, s2, s3] (.ref a :: st) h := e_go dL_law_1326 rfl rfl
theorem wL_law_1327 : E_ d mL_law 1327 [s0, s1, s2, .val (.int x)] st h = E_ d mL_law 1328 [s0, s1, s2, .val (.int x)] (.int x :: st) h := e_go dL_law_1327 rfl rfl
theorem wL_law_1328 : E_ d mL_law 1328 ls st h = E_ d mL_law 1329 ls (.int (nI 2) :: st) h := e_iconst dL_law_1328 kiconst_2 rfl
theorem wL_law_1329 : E_ d mL_law 1329 ls (.int y :: .int x :: st) h = E_ d mL_law 1330 ls (.int (x + y) :: st) h := e_go dL_law_1329 rfl rfl
theorem wL_law_1330 (ht : oT h a = 39) (hi : xix x (oN h a) = true) : E_ d mL_law 1330 ls (.int x :: .ref a :: st) h = E_ d mL_law 1331 ls (.int (oI h a x.toNatClampNeg) :: st) h := e_iald9 dL_law_1330 rfl ht hi
theorem wL_law_1331 : E_ d mL_law 1331 [.val (.ref a), s1, s2, s3] st h = E_ d mL_law 1332 [.val (.ref a), s1, s2, s3] (.ref a :: st) h := e_go dL_law_1331 rfl rfl
theorem wL_law_1332 : E_ d mL_law 1332 [s0, s1, s2, .val (.int x)] st h = E_ d mL_law 1333 [s0, s1, s2, .val (.int x)] (.int x :: st) h := e_go dL_law_1332 rfl rfl
theorem wL_law_1333 : E_ d mL_law 1333 ls st h = E_ d mL_law 1334 ls (.int (nI 3) :: st) h := e_iconst dL_law_1333 kiconst_3 rfl
theorem wL_law_1334 : E_ d mL_law 1334 ls (.int y :: .int x :: st) h = E_ d mL_law 1335 ls (.int (x + y) :: st) h := e_go dL_law_1334 rfl rfl
theorem wL_law_1335 (ht : oT h a = 39) (hi : xix x (oN h a) = true) : E_ d mL_law 1335 ls (.int x :: .ref a :: st) h = E_ d mL_law 1336 ls (.int (oI h a x.toNatClampNeg) :: st) h := e_iald9 dL_law_1335 rfl ht hi
theorem wL_law_1336 : E_ d mL_law 1336 [.val (.ref a), s1, s2, s3] st h = E_ d mL_law 1337 [.val (.ref a), s1, s2, s3] (.ref a :: st) h := e_go dL_law_1336 rfl rfl
theorem wL_law_1337 : E_ d mL_law 1337 [s0, s1, s2, .val (.int x)] st h = E_ d mL_law 1338 [s0, s1, s2, .val (.int x)] (.int x :: st) h := e_go dL_law_1337 rfl rfl
theorem wL_law_1338 : E_ d mL_law 1338 ls st h = E_ d mL_law 1339 ls (.int (nI 4) :: st) h := e_iconst dL_law_1338 kiconst_4 rfl
theorem wL_law_1339 : E_ d mL_law 1339 ls (.int y :: .int x :: st) h = E_ d mL_law 1340 ls (.int (x + y) :: st) h := e_go dL_law_1339 rfl rfl
theorem wL_law_1340 (ht : oT h a = 39) (hi : xix x (oN h a) = true) : E_ d mL_law 1340 ls (.int x :: .ref a :: st) h = E_ d mL_law 1341 ls (.int (oI h a x.toNatClampNeg) :: st) h := e_iald9 dL_law_1340 rfl ht hi
theorem wL_law_1341 (ht : oT h a = 1) : E_ (d + 1) mL_law 1341 ls [.int x4, .int x3, .int x2, .int x1, .ref a] h = (C_ d mX0_until [.ref a, .int x1, .int x2, .int x3, .int x4] h).bind fun r => E_ (d + 1) mL_law 1344 ls (xpu r.1 []) r.2 := e_vir dL_law_1341 rfl rfl rfl rfl rfl rfl (Nat.le_of_ble_eq_true rfl) (Nat.le_of_ble_eq_true rfl) ht
theorem wL_law_1344 : E_ d mL_law 1344 [s0, s1, .val (.ref a), s3] st h = E_ d mL_law 1345 [s0, s1, .val (.ref a), s3] (.ref a :: st) h := e_go dL_law_1344 rfl rfl
theorem wL_law_1345 : E_ d mL_law 1345 [.val (.ref a), s1, s2, s3] st h = E_ d mL_law 1346 [.val (.ref a), s1, s2, s3] (.ref a :: st) h := e_go dL_law_1345 rfl rfl
theorem wL_law_1346 : E_ d mL_law 1346 [s0, s1, s2, .val (.int x)] st h = E_ d mL_law 1347 [s0, s1, s2, .val (.int x)] (.int x :: st) h := e_go dL_law_1346 rfl rfl
theorem wL_law_1347 : E_ d mL_law 1347 ls st h = E_ d mL_law 1348 ls (.int (nI 1) :: st) h := e_iconst dL_law_1347 kiconst_1 rfl
theorem wL_law_1348 : E_ d mL_law 1348 ls (.int y :: .int x :: st) h = E_ d mL_law 1349 ls (.int (x + y) :: st) h := e_go dL_law_1348 rfl rfl
theorem wL_law_1349 (ht : oT h a = 39) (hi : xix x (oN h a) = true) : E_ d mL_law 1349 ls (.int x :: .ref a :: st) h = E_ d mL_law 1350 ls (.int (oI h a x.toNatClampNeg) :: st) h := e_iald9 dL_law_1349 rfl ht hi
theorem wL_law_1350 : E_ d mL_law 1350 [.val (.ref a), s1, s2, s3] st h = E_ d mL_law 1351 [.val (.ref a), s1, s2, s3] (.ref a :: st) h := e_go dL_law_1350 rfl rfl
theorem wL_law_1351 : E_ d mL_law 1351 [s0, s1, s2, .val (.int x)] st h = E_ d mL_law 1352 [s0, s1, s2, .val (.int x)] (.int x :: st) h := e_go dL_law_1351 rfl rfl
theorem wL_law_1352 : E_ d mL_law 1352 ls st h = E_ d mL_law 1353 ls (.int (nI 2) :: st) h := e_iconst dL_law_1352 kiconst_2 rfl
theorem wL_law_1353 : E_ d mL_law 1353 ls (.int y :: .int x :: st) h = E_ d mL_law 1354 ls (.int (x + y) :: st) h := e_go dL_law_1353 rfl rfl
theorem wL_law_1354 (ht : oT h a = 39) (hi : xix x (oN h a) = true) : E_ d mL_law 1354 ls (.int x :: .ref a :: st) h = E_ d mL_law 1355 ls (.int (oI h a x.toNatClampNeg) :: st) h := e_iald9 dL_law_1354 rfl ht hi
theorem wL_law_1355 : E_ d mL_law 1355 [.val (.ref a), s1, s2, s3] st h = E_ d mL_law 1356 [.val (.ref a), s1, s2, s3] (.ref a :: st) h := e_go dL_law_1355 rfl rfl
theorem wL_law_1356 : E_ d mL_law 1356 [s0, s1, s2, .val (.int x)] st h = E_ d mL_law 1357 [s0, s1, s2, .val (.int x)] (.int x :: st) h := e_go dL_law_1356 rfl rfl
theorem wL_law_1357 : E_ d mL_law 1357 ls st h = E_ d mL_law 1358 ls (.int (nI 3) :: st) h := e_iconst dL_law_1357 kiconst_3 rfl
theorem wL_law_1358 : E_ d mL_law 1358 ls (.int y :: .int x :: st) h = E_ d mL_law 1359 ls (.int (x + y) :: st) h := e_go dL_law_1358 rfl rfl
theorem wL_law_1359 (ht : oT h a = 39) (hi : xix x (oN h a) = true) : E_ d mL_law 1359 ls (.int x :: .ref a :: st) h = E_ d mL_law 1360 ls (.int (oI h a x.toNatClampNeg) :: st) h := e_iald9 dL_law_1359 rfl ht hi
theorem wL_law_1360 : E_ d mL_law 1360 [.val (.ref a), s1, s2, s3] st h = E_ d mL_law 1361 [.val (.ref a), s1, s2, s3] (.ref a :: st) h := e_go dL_law_1360 rfl rfl
theorem wL_law_1361 : E_ d mL_law 1361 [s0, s1, s2, .val (.int x)] st h = E_ d mL_law 1362 [s0, s1, s2, .val (.int x)] (.int x :: st) h := e_go dL_law_1361 rfl rfl
theorem wL_law_1362 : E_ d mL_law 1362 ls st h = E_ d mL_law 1363 ls (.int (nI 4) :: st) h := e_iconst dL_law_1362 kiconst_4 rfl
theorem wL_law_1363 : E_ d mL_law 1363 ls (.int y :: .int x :: st) h = E_ d mL_law 1364 ls (.int (x + y) :: st) h := e_go dL_law_1363 rfl rfl
theorem wL_law_1364 (ht : oT h a = 39) (hi : xix x (oN h a) = true) : E_ d mL_law 1364 ls (.int x :: .ref a :: st) h = E_ d mL_law 1365 ls (.int (oI h a x.toNatClampNeg) :: st) h := e_iald9 dL_law_1364 rfl ht hi
theorem wL_law_1365 (ht : oT h a = 7) : E_ (d + 1) mL_law 1365 ls [.int x4, .int x3, .int x2, .int x1, .ref a, .int x5] h = (C_ d mX5_until [.ref a, .int x1, .int x2, .int x3, .int x4] h).bind fun r => E_ (d + 1) mL_law 1368 ls (xpu r.1 [.int x5]) r.2 := e_vir dL_law_1365 rfl rfl rfl rfl rfl rfl (Nat.le_of_ble_eq_true rfl) (Nat.le_of_ble_eq_true rfl) ht
theorem wL_law_1368 : E_ d mL_law 1368 ls (.int y :: .int x :: st) h = if x = y then E_ d mL_law 1989 ls st h else E_ d mL_law 1371 ls st h := e_ieq dL_law_1368 rfl rfl
theorem wL_law_1371 : E_ d mL_law 1371 ls st h = E_ d mL_law 1372 ls (.int (nI 0) :: st) h := e_iconst dL_law_1371 kiconst_0 rfl
theorem wL_law_1372 (hx : x = 0 ∨ x = 1) : E_ d mL_law 1372 ls [.int x] h = some (some (.int x), h) := e_rtZ dL_law_1372 rfl hx
theorem wL_law_1373 : E_ d mL_law 1373 [s0, .val (.ref a), s2, s3] st h = E_ d mL_law 1374 [s0, .val (.ref a), s2, s3] (.ref a :: st) h := e_go dL_law_1373 rfl rfl
theorem wL_law_1374 : E_ d mL_law 1374 [.val (.ref a), s1, s2, s3] st h = E_ d mL_law 1375 [.val (.ref a), s1, s2, s3] (.ref a :: st) h := e_go dL_law_1374 rfl rfl
theorem wL_law_1375 : E_ d mL_law 1375 [s0, s1, s2, .val (.int x)] st h = E_ d mL_law 1376 [s0, s1, s2, .val (.int x)] (.int x :: st) h := e_go dL_law_1375 rfl rfl
theorem wL_law_1376 : E_ d mL_law 1376 ls st h = E_ d mL_law 1377 ls (.int (nI 1) :: st) h := e_iconst dL_law_1376 kiconst_1 rfl
theorem wL_law_1377 : E_ d mL_law 1377 ls (.int y :: .int x :: st) h = E_ d mL_law 1378 ls (.int (x + y) :: st) h := e_go dL_law_1377 rfl rfl
theorem wL_law_1378 (ht : oT h a = 39) (hi : xix x (oN h a) = true) : E_ d mL_law 1378 ls (.int x :: .ref a :: st) h = E_ d mL_law 1379 ls (.int (oI h a x.toNatClampNeg) :: st) h := e_iald9 dL_law_1378 rfl ht hi
theorem wL_law_1379 : E_ d mL_law 1379 [.val (.ref a), s1, s2, s3] st h = E_ d mL_law 1380 [.val (.ref a), s1, s2, s3] (.ref a :: st) h := e_go dL_law_1379 rfl rfl
theorem wL_law_1380 : E_ d mL_law 1380 [s0, s1, s2, .val (.int x)] st h = E_ d mL_law 1381 [s0, s1, s2, .val (.int x)] (.int x :: st) h := e_go dL_law_1380 rfl rfl
theorem wL_law_1381 : E_ d mL_law 1381 ls st h = E_ d mL_law 1382 ls (.int (nI 2) :: st) h := e_iconst dL_law_1381 kiconst_2 rfl
theorem wL_law_1382 : E_ d mL_law 1382 ls (.int y :: .int x :: st) h = E_ d mL_law 1383 ls (.int (x + y) :: st) h := e_go dL_law_1382 rfl rfl
theorem wL_law_1383 (ht : oT h a = 39) (hi : xix x (oN h a) = true) : E_ d mL_law 1383 ls (.int x :: .ref a :: st) h = E_ d mL_law 1384 ls (.int (oI h a x.toNatClampNeg) :: st) h := e_iald9 dL_law_1383 rfl ht hi
theorem wL_law_1384 (ht : oT h a = 1) : E_ (d + 1) mL_law 1384 ls [.int x2, .int x1, .ref a] h = (C_ d mX0_lot [.ref a, .int x1, .int x2] h).bind fun r => E_ (d + 1) mL_law 1387 ls (xpu r.1 []) r.2 := e_vir dL_law_1384 rfl rfl rfl rfl rfl rfl (Nat.le_of_ble_eq_true rfl) (Nat.le_of_ble_eq_true rfl) ht
theorem wL_law_1387 : E_ d mL_law 1387 [s0, s1, .val (.ref a), s3] st h = E_ d mL_law 1388 [s0, s1, .val (.ref a), s3] (.ref a :: st) h := e_go dL_law_1387 rfl rfl
theorem wL_law_1388 : E_ d mL_law 1388 [.val (.ref a), s1, s2, s3] st h = E_ d mL_law 1389 [.val (.ref a), s1, s2, s3] (.ref a :: st) h := e_go dL_law_1388 rfl rfl
theorem wL_law_1389 : E_ d mL_law 1389 [s0, s1, s2, .val (.int x)] st h = E_ d mL_law 1390 [s0, s1, s2, .val (.int x)] (.int x :: st) h := e_go dL_law_1389 rfl rfl
theorem wL_law_1390 : E_ d mL_law 1390 ls st h = E_ d mL_law 1391 ls (.int (nI 1) :: st) h := e_iconst dL_law_1390 kiconst_1 rfl
theorem wL_law_1391 : E_ d mL_law 1391 ls (.int y :: .int x :: st) h = E_ d mL_law 1392 ls (.int (x + y) :: st) h := e_go dL_law_1391 rfl rfl
theorem wL_law_1392 (ht : oT h a = 39) (hi : xix x (oN h a) = true) : E_ d mL_law 1392 ls (.int x :: .ref a :: st) h = E_ d mL_law 1393 ls (.int (oI h a x.toNatClampNeg) :: st) h := e_iald9 dL_law_1392 rfl ht hi
theorem wL_law_1393 : E_ d mL_law 1393 [.val (.ref a), s1, s2, s3] st h = E_ d mL_law 1394 [.val (.ref a), s1, s2, s3] (.ref a :: st) h := e_go dL_law_1393 rfl rfl
theorem wL_law_1394 : E_ d mL_law 1394 [s0, s1, s2, .val (.int x)] st h = E_ d mL_law 1395 [s0, s1, s2, .val (.int x)] (.int x :: st) h := e_go dL_law_1394 rfl rfl
theorem wL_law_1395 : E_ d mL_law 1395 ls st h = E_ d mL_law 1396 ls (.int (nI 2) :: st) h := e_iconst dL_law_1395 kiconst_2 rfl
theorem wL_law_1396 : E_ d mL_law 1396 ls (.int y :: .int x :: st) h = E_ d mL_law 1397 ls (.int (x + y) :: st) h := e_go dL_law_1396 rfl rfl
theorem wL_law_1397 (ht : oT h a = 39) (hi : xix x (oN h a) = true) : E_ d mL_law 1397 ls (.int x :: .ref a :: st) h = E_ d mL_law 1398 ls (.int (oI h a x.toNatClampNeg) :: st) h := e_iald9 dL_law_1397 rfl ht hi
theorem wL_law_1398 (ht : oT h a = 7) : E_ (d + 1) mL_law 1398 ls [.int x2, .int x1, .ref a, .int x3] h = (C_ d mX5_lot [.ref a, .int x1, .int x2] h).bind fun r => E_ (d + 1) mL_law 1401 ls (xpu r.1 [.int x3]) r.2 := e_vir dL_law_1398 rfl rfl rfl rfl rfl rfl (Nat.le_of_ble_eq_true rfl) (Nat.le_of_ble_eq_true rfl) ht
theorem wL_law_1401 : E_ d mL_law 1401 ls (.int y :: .int x :: st) h = if x = y then E_ d mL_law 1989 ls st h else E_ d mL_law 1404 ls st h := e_ieq dL_law_1401 rfl rfl
theorem wL_law_1404 : E_ d mL_law 1404 ls st h = E_ d mL_law 1405 ls (.int (nI 0) :: st) h := e_iconst dL_law_1404 kiconst_0 rfl
theorem wL_law_1405 (hx : x = 0 ∨ x = 1) : E_ d mL_law 1405 ls [.int x] h = some (some (.int x), h) := e_rtZ dL_law_1405 rfl hx
theorem wL_law_1406 : E_ d mL_law 1406 [s0, .val (.ref a), s2, s3] st h = E_ d mL_law 1407 [s0, .val (.ref a), s2, s3] (.ref a :: st) h := e_go dL_law_1406 rfl rfl
theorem wL_law_1407 : E_ d mL_law 1407 [.val (.ref a), s1, s2, s3] st h = E_ d mL_law 1408 [.val (.ref a), s1, s2, s3] (.ref a :: st) h := e_go dL_law_1407 rfl rfl
theorem wL_law_1408 : E_ d mL_law 1408 [s0, s1, s2, .val (.int x)] st h = E_ d mL_law 1409 [s0, s1, s2, .val (.int x)] (.int x :: st) h := e_go dL_law_1408 rfl rfl
theorem wL_law_1409 : E_ d mL_law 1409 ls st h = E_ d mL_law 1410 ls (.int (nI 1) :: st) h := e_iconst dL_law_1409 kiconst_1 rfl
theorem wL_law_1410 : E_ d mL_law 1410 ls (.int y :: .int x :: st) h = E_ d mL_law 1411 ls (.int (x + y) :: st) h := e_go dL_law_1410 rfl rfl
theorem wL_law_1411 (ht : oT h a = 39) (hi : xix x (oN h a) = true) : E_ d mL_law 1411 ls (.int x :: .ref a :: st) h = E_ d mL_law 1412 ls (.int (oI h a x.toNatClampNeg) :: st) h := e_iald9 dL_law_1411 rfl ht hi
theorem wL_law_1412 : E_ d mL_law 1412 [.val (.ref a), s1, s2, s3] st h = E_ d mL_law 1413 [.val (.ref a), s1, s2, s3] (.ref a :: st) h := e_go dL_law_1412 rfl rfl
theorem wL_law_1413 : E_ d mL_law 1413 [s0, s1, s2, .val (.int x)] st h = E_ d mL_law 1414 [s0, s1, s2, .val (.int x)] (.int x :: st) h := e_go dL_law_1413 rfl rfl
theorem wL_law_1414 : E_ d mL_law 1414 ls st h = E_ d mL_law 1415 ls (.int (nI 2) :: st) h := e_iconst dL_law_1414 kiconst_2 rfl
theorem wL_law_1415 : E_ d mL_law 1415 ls (.int y :: .int x :: st) h = E_ d mL_law 1416 ls (.int (x + y) :: st) h := e_go dL_law_1415 rfl rfl
theorem wL_law_1416 (ht : oT h a = 39) (hi : xix x (oN h a) = true) : E_ d mL_law 1416 ls (.int x :: .ref a :: st) h = E_ d mL_law 1417 ls (.int (oI h a x.toNatClampNeg) :: st) h := e_iald9 dL_law_1416 rfl ht hi
theorem wL_law_1417 : E_ d mL_law 1417 [.val (.ref a), s1, s2, s3] st h = E_ d mL_law 1418 [.val (.ref a), s1, s2, s3] (.ref a :: st) h := e_go dL_law_1417 rfl rfl
theorem wL_law_1418 : E_ d mL_law 1418 [s0, s1, s2, .val (.int x)] st h = E_ d mL_law 1419 [s0, s1, s2, .val (.int x)] (.int x :: st) h := e_go dL_law_1418 rfl rfl
theorem wL_law_1419 : E_ d mL_law 1419 ls st h = E_ d mL_law 1420 ls (.int (nI 3) :: st) h := e_iconst dL_law_1419 kiconst_3 rfl
theorem wL_law_1420 : E_ d mL_law 1420 ls (.int y :: .int x :: st) h = E_ d mL_law 1421 ls (.int (x + y) :: st) h := e_go dL_law_1420 rfl rfl
theorem wL_law_1421 (ht : oT h a = 39) (hi : xix x (oN h a) = true) : E_ d mL_law 1421 ls (.int x :: .ref a :: st) h = E_ d mL_law 1422 ls (.int (oI h a x.toNatClampNeg) :: st) h := e_iald9 dL_law_1421 rfl ht hi
theorem wL_law_1422 : E_ d mL_law 1422 [.val (.ref a), s1, s2, s3] st h = E_ d mL_law 1423 [.val (.ref a), s1, s2, s3] (.ref a :: st) h := e_go dL_law_1422 rfl rfl
theorem wL_law_1423 : E_ d mL_law 1423 [s0, s1, s2, .val (.int x)] st h = E_ d mL_law 1424 [s0, s1, s2, .val (.int x)] (.int x :: st) h := e_go dL_law_1423 rfl rfl
theorem wL_law_1424 : E_ d mL_law 1424 ls st h = E_ d mL_law 1425 ls (.int (nI 4) :: st) h := e_iconst dL_law_1424 kiconst_4 rfl
theorem wL_law_1425 : E_ d mL_law 1425 ls (.int y :: .int x :: st) h = E_ d mL_law 1426 ls (.int (x + y) :: st) h := e_go dL_law_1425 rfl rfl
theorem wL_law_1426 (ht : oT h a = 39) (hi : xix x (oN h a) = true) : E_ d mL_law 1426 ls (.int x :: .ref a :: st) h = E_ d mL_law 1427 ls (.int (oI h a x.toNatClampNeg) :: st) h := e_iald9 dL_law_1426 rfl ht hi
theorem wL_law_1427 (ht : oT h a = 1) : E_ (d + 1) mL_law 1427 ls [.int x4, .int x3, .int x2, .int x1, .ref a] h = (C_ d mX0_shown [.ref a, .int x1, .int x2, .int x3, .int x4] h).bind fun r => E_ (d + 1) mL_law 1430 ls (xpu r.1 []) r.2 := e_vir dL_law_1427 rfl rfl rfl rfl rfl rfl (Nat.le_of_ble_eq_true rfl) (Nat.le_of_ble_eq_true rfl) ht
theorem wL_law_1430 : E_ d mL_law 1430 [s0, s1, .val (.ref a), s3] st h = E_ d mL_law 1431 [s0, s1, .val (.ref a), s3] (.ref a :: st) h := e_go dL_law_1430 rfl rfl
theorem wL_law_1431 : E_ d mL_law 1431 [.val (.ref a), s1, s2, s3] st h = E_ d mL_law 1432 [.val (.ref a), s1, s2, s3] (.ref a :: st) h := e_go dL_law_1431 rfl rfl
theorem wL_law_1432 : E_ d mL_law 1432 [s0, s1, s2, .val (.int x)] st h = E_ d mL_law 1433 [s0, s1, s2, .val (.int x)] (.int x :: st) h := e_go dL_law_1432 rfl rfl
theorem wL_law_1433 : E_ d mL_law 1433 ls st h = E_ d mL_law 1434 ls (.int (nI 1) :: st) h := e_iconst dL_law_1433 kiconst_1 rfl
theorem wL_law_1434 : E_ d mL_law 1434 ls (.int y :: .int x :: st) h = E_ d mL_law 1435 ls (.int (x + y) :: st) h := e_go dL_law_1434 rfl rfl
theorem wL_law_1435 (ht : oT h a = 39) (hi : xix x (oN h a) = true) : E_ d mL_law 1435 ls (.int x :: .ref a :: st) h = E_ d mL_law 1436 ls (.int (oI h a x.toNatClampNeg) :: st) h := e_iald9 dL_law_1435 rfl ht hi
theorem wL_law_1436 : E_ d mL_law 1436 [.val (.ref a), s1, s2, s3] st h = E_ d mL_law 1437 [.val (.ref a), s1, s2, s3] (.ref a :: st) h := e_go dL_law_1436 rfl rfl
theorem wL_law_1437 : E_ d mL_law 1437 [s0, s1, s2, .val (.int x)] st h = E_ d mL_law 1438 [s0, s1, s2, .val (.int x)] (.int x :: st) h := e_go dL_law_1437 rfl rfl
theorem wL_law_1438 : E_ d mL_law 1438 ls st h = E_ d mL_law 1439 ls (.int (nI 2) :: st) h := e_iconst dL_law_1438 kiconst_2 rfl
theorem wL_law_1439 : E_ d mL_law 1439 ls (.int y :: .int x :: st) h = E_ d mL_law 1440 ls (.int (x + y) :: st) h := e_go dL_law_1439 rfl rfl
theorem wL_law_1440 (ht : oT h a = 39) (hi : xix x (oN h a) = true) : E_ d mL_law 1440 ls (.int x :: .ref a :: st) h = E_ d mL_law 1441 ls (.int (oI h a x.toNatClampNeg) :: st) h := e_iald9 dL_law_1440 rfl ht hi
theorem wL_law_1441 : E_ d mL_law 1441 [.val (.ref a), s1, s2, s3] st h = E_ d mL_law 1442 [.val (.ref a), s1, s2, s3] (.ref a :: st) h := e_go dL_law_1441 rfl rfl
theorem wL_law_1442 : E_ d mL_law 1442 [s0, s1, s2, .val (.int x)] st h = E_ d mL_law 1443 [s0, s1, s2, .val (.int x)] (.int x :: st) h := e_go dL_law_1442 rfl rfl
theorem wL_law_1443 : E_ d mL_law 1443 ls st h = E_ d mL_law 1444 ls (.int (nI 3) :: st) h := e_iconst dL_law_1443 kiconst_3 rfl
theorem wL_law_1444 : E_ d mL_law 1444 ls (.int y :: .int x :: st) h = E_ d mL_law 1445 ls (.int (x + y) :: st) h := e_go dL_law_1444 rfl rfl
theorem wL_law_1445 (ht : oT h a = 39) (hi : xix x (oN h a) = true) : E_ d mL_law 1445 ls (.int x :: .ref a :: st) h = E_ d mL_law 1446 ls (.int (oI h a x.toNatClampNeg) :: st) h := e_iald9 dL_law_1445 rfl ht hi
theorem wL_law_1446 : E_ d mL_law 1446 [.val (.ref a), s1, s2, s3] st h = E_ d mL_law 1447 [.val (.ref a), s1, s2, s3] (.ref a :: st) h := e_go dL_law_1446 rfl rfl
theorem wL_law_1447 : E_ d mL_law 1447 [s0, s1, s2, .val (.int x)] st h = E_ d mL_law 1448 [s0, s1, s2, .val (.int x)] (.int x :: st) h := e_go dL_law_1447 rfl rfl
theorem wL_law_1448 : E_ d mL_law 1448 ls st h = E_ d mL_law 1449 ls (.int (nI 4) :: st) h := e_iconst dL_law_1448 kiconst_4 rfl
theorem wL_law_1449 : E_ d mL_law 1449 ls (.int y :: .int x :: st) h = E_ d mL_law 1450 ls (.int (x + y) :: st) h := e_go dL_law_1449 rfl rfl
theorem wL_law_1450 (ht : oT h a = 39) (hi : xix x (oN h a) = true) : E_ d mL_law 1450 ls (.int x :: .ref a :: st) h = E_ d mL_law 1451 ls (.int (oI h a x.toNatClampNeg) :: st) h := e_iald9 dL_law_1450 rfl ht hi
theorem wL_law_1451 (ht : oT h a = 7) : E_ (d + 1) mL_law 1451 ls [.int x4, .int x3, .int x2, .int x1, .ref a, .int x5] h = (C_ d mX5_shown [.ref a, .int x1, .int x2, .int x3, .int x4] h).bind fun r => E_ (d + 1) mL_law 1454 ls (xpu r.1 [.int x5]) r.2 := e_vir dL_law_1451 rfl rfl rfl rfl rfl rfl (Nat.le_of_ble_eq_true rfl) (Nat.le_of_ble_eq_true rfl) ht
theorem wL_law_1454 : E_ d mL_law 1454 ls (.int y :: .int x :: st) h = if x = y then E_ d mL_law 1989 ls st h else E_ d mL_law 1457 ls st h := e_ieq dL_law_1454 rfl rfl
theorem wL_law_1457 : E_ d mL_law 1457 ls st h = E_ d mL_law 1458 ls (.int (nI 0) :: st) h := e_iconst dL_law_1457 kiconst_0 rfl
theorem wL_law_1458 (hx : x = 0 ∨ x = 1) : E_ d mL_law 1458 ls [.int x] h = some (some (.int x), h) := e_rtZ dL_law_1458 rfl hx
theorem wL_law_1459 : E_ d mL_law 1459 [s0, .val (.ref a), s2, s3] st h = E_ d mL_law 1460 [s0, .val (.ref a), s2, s3] (.ref a :: st) h := e_go dL_law_1459 rfl rfl
theorem wL_law_1460 : E_ d mL_law 1460 [.val (.ref a), s1, s2, s3] st h = E_ d mL_law 1461 [.val (.ref a), s1, s2, s3] (.ref a :: st) h := e_go dL_law_1460 rfl rfl
theorem wL_law_1461 : E_ d mL_law 1461 [s0, s1, s2, .val (.int x)] st h = E_ d mL_law 1462 [s0, s1, s2, .val (.int x)] (.int x :: st) h := e_go dL_law_1461 rfl rfl
theorem wL_law_1462 : E_ d mL_law 1462 ls st h = E_ d mL_law 1463 ls (.int (nI 1) :: st) h := e_iconst dL_law_1462 kiconst_1 rfl
theorem wL_law_1463 : E_ d mL_law 1463 ls (.int y :: .int x :: st) h = E_ d mL_law 1464 ls (.int (x + y) :: st) h := e_go dL_law_1463 rfl rfl
theorem wL_law_1464 (ht : oT h a = 39) (hi : xix x (oN h a) = true) : E_ d mL_law 1464 ls (.int x :: .ref a :: st) h = E_ d mL_law 1465 ls (.int (oI h a x.toNatClampNeg) :: st) h := e_iald9 dL_law_1464 rfl ht hi
theorem wL_law_1465 : E_ d mL_law 1465 [.val (.ref a), s1, s2, s3] st h = E_ d mL_law 1466 [.val (.ref a), s1, s2, s3] (.ref a :: st) h := e_go dL_law_1465 rfl rfl
theorem wL_law_1466 : E_ d mL_law 1466 [s0, s1, s2, .val (.int x)] st h = E_ d mL_law 1467 [s0, s1, s2, .val (.int x)] (.int x :: st) h := e_go dL_law_1466 rfl rfl
theorem wL_law_1467 : E_ d mL_law 1467 ls st h = E_ d mL_law 1468 ls (.int (nI 2) :: st) h := e_iconst dL_law_1467 kiconst_2 rfl
theorem wL_law_1468 : E_ d mL_law 1468 ls (.int y :: .int x :: st) h = E_ d mL_law 1469 ls (.int (x + y) :: st) h := e_go dL_law_1468 rfl rfl
theorem wL_law_1469 (ht : oT h a = 39) (hi : xix x (oN h a) = true) : E_ d mL_law 1469 ls (.int x :: .ref a :: st) h = E_ d mL_law 1470 ls (.int (oI h a x.toNatClampNeg) :: st) h := e_iald9 dL_law_1469 rfl ht hi
theorem wL_law_1470 : E_ d mL_law 1470 [.val (.ref a), s1, s2, s3] st h = E_ d mL_law 1471 [.val (.ref a), s1, s2, s3] (.ref a :: st) h := e_go dL_law_1470 rfl rfl
theorem wL_law_1471 : E_ d mL_law 1471 [s0, s1, s2, .val (.int x)] st h = E_ d mL_law 1472 [s0, s1, s2, .val (.int x)] (.int x :: st) h := e_go dL_law_1471 rfl rfl
theorem wL_law_1472 : E_ d mL_law 1472 ls st h = E_ d mL_law 1473 ls (.int (nI 3) :: st) h := e_iconst dL_law_1472 kiconst_3 rfl
theorem wL_law_1473 : E_ d mL_law 1473 ls (.int y :: .int x :: st) h = E_ d mL_law 1474 ls (.int (x + y) :: st) h := e_go dL_law_1473 rfl rfl
theorem wL_law_1474 (ht : oT h a = 39) (hi : xix x (oN h a) = true) : E_ d mL_law 1474 ls (.int x :: .ref a :: st) h = E_ d mL_law 1475 ls (.int (oI h a x.toNatClampNeg) :: st) h := e_iald9 dL_law_1474 rfl ht hi
theorem wL_law_1475 : E_ d mL_law 1475 [.val (.ref a), s1, s2, s3] st h = E_ d mL_law 1476 [.val (.ref a), s1, s2, s3] (.ref a :: st) h := e_go dL_law_1475 rfl rfl
theorem wL_law_1476 : E_ d mL_law 1476 [s0, s1, s2, .val (.int x)] st h = E_ d mL_law 1477 [s0, s1, s2, .val (.int x)] (.int x :: st) h := e_go dL_law_1476 rfl rfl
theorem wL_law_1477 : E_ d mL_law 1477 ls st h = E_ d mL_law 1478 ls (.int (nI 4) :: st) h := e_iconst dL_law_1477 kiconst_4 rfl
theorem wL_law_1478 : E_ d mL_law 1478 ls (.int y :: .int x :: st) h = E_ d mL_law 1479 ls (.int (x + y) :: st) h := e_go dL_law_1478 rfl rfl
theorem wL_law_1479 (ht : oT h a = 39) (hi : xix x (oN h a) = true) : E_ d mL_law 1479 ls (.int x :: .ref a :: st) h = E_ d mL_law 1480 ls (.int (oI h a x.toNatClampNeg) :: st) h := e_iald9 dL_law_1479 rfl ht hi
theorem wL_law_1480 (ht : oT h a = 1) : E_ (d + 1) mL_law 1480 ls [.int x4, .int x3, .int x2, .int x1, .ref a] h = (C_ d mX0_clumps [.ref a, .int x1, .int x2, .int x3, .int x4] h).bind fun r => E_ (d + 1) mL_law 1483 ls (xpu r.1 []) r.2 := e_vir dL_law_1480 rfl rfl rfl rfl rfl rfl (Nat.le_of_ble_eq_true rfl) (Nat.le_of_ble_eq_true rfl) ht
theorem wL_law_1483 : E_ d mL_law 1483 [s0, s1, .val (.ref a), s3] st h = E_ d mL_law 1484 [s0, s1, .val (.ref a), s3] (.ref a :: st) h := e_go dL_law_1483 rfl rfl
theorem wL_law_1484 : E_ d mL_law 1484 [.val (.ref a), s1, s2, s3] st h = E_ d mL_law 1485 [.val (.ref a), s1, s2, s3] (.ref a :: st) h := e_go dL_law_1484 rfl rfl
theorem wL_law_1485 : E_ d mL_law 1485 [s0, s1, s2, .val (.int x)] st h = E_ d mL_law 1486 [s0, s1, s2, .val (.int x)] (.int x :: st) h := e_go dL_law_1485 rfl rfl
theorem wL_law_1486 : E_ d mL_law 1486 ls st h = E_ d mL_law 1487 ls (.int (nI 1) :: st) h := e_iconst dL_law_1486 kiconst_1 rfl
theorem wL_law_1487 : E_ d mL_law 1487 ls (.int y :: .int x :: st) h = E_ d mL_law 1488 ls (.int (x + y) :: st) h := e_go dL_law_1487 rfl rfl
theorem wL_law_1488 (ht : oT h a = 39) (hi : xix x (oN h a) = true) : E_ d mL_law 1488 ls (.int x :: .ref a :: st) h = E_ d mL_law 1489 ls (.int (oI h a x.toNatClampNeg) :: st) h := e_iald9 dL_law_1488 rfl ht hi
theorem wL_law_1489 : E_ d mL_law 1489 [.val (.ref a), s1, s2, s3] st h = E_ d mL_law 1490 [.val (.ref a), s1, s2, s3] (.ref a :: st) h := e_go dL_law_1489 rfl rfl
theorem wL_law_1490 : E_ d mL_law 1490 [s0, s1, s2, .val (.int x)] st h = E_ d mL_law 1491 [s0, s1, s2, .val (.int x)] (.int x :: st) h := e_go dL_law_1490 rfl rfl
theorem wL_law_1491 : E_ d mL_law 1491 ls st h = E_ d mL_law 1492 ls (.int (nI 2) :: st) h := e_iconst dL_law_1491 kiconst_2 rfl
theorem wL_law_1492 : E_ d mL_law 1492 ls (.int y :: .int x :: st) h = E_ d mL_law 1493 ls (.int (x + y) :: st) h := e_go dL_law_1492 rfl rfl
theorem wL_law_1493 (ht : oT h a = 39) (hi : xix x (oN h a) = true) : E_ d mL_law 1493 ls (.int x :: .ref a :: st) h = E_ d mL_law 1494 ls (.int (oI h a x.toNatClampNeg) :: st) h := e_iald9 dL_law_1493 rfl ht hi
theorem wL_law_1494 : E_ d mL_law 1494 [.val (.ref a), s1, s2, s3] st h = E_ d mL_law 1495 [.val (.ref a), s1, s2, s3] (.ref a :: st) h := e_go dL_law_1494 rfl rfl
theorem wL_law_1495 : E_ d mL_law 1495 [s0, s1, s2, .val (.int x)] st h = E_ d mL_law 1496 [s0, s1, s2, .val (.int x)] (.int x :: st) h := e_go dL_law_1495 rfl rfl
theorem wL_law_1496 : E_ d mL_law 1496 ls st h = E_ d mL_law 1497 ls (.int (nI 3) :: st) h := e_iconst dL_law_1496 kiconst_3 rfl
theorem wL_law_1497 : E_ d mL_law 1497 ls (.int y :: .int x :: st) h = E_ d mL_law 1498 ls (.int (x + y) :: st) h := e_go dL_law_1497 rfl rfl
theorem wL_law_1498 (ht : oT h a = 39) (hi : xix x (oN h a) = true) : E_ d mL_law 1498 ls (.int x :: .ref a :: st) h = E_ d mL_law 1499 ls (.int (oI h a x.toNatClampNeg) :: st) h := e_iald9 dL_law_1498 rfl ht hi
theorem wL_law_1499 : E_ d mL_law 1499 [.val (.ref a), s1, s2, s3] st h = E_ d mL_law 1500 [.val (.ref a), s1, s2, s3] (.ref a :: st) h := e_go dL_law_1499 rfl rfl
theorem wL_law_1500 : E_ d mL_law 1500 [s0, s1, s2, .val (.int x)] st h = E_ d mL_law 1501 [s0, s1, s2, .val (.int x)] (.int x :: st) h := e_go dL_law_1500 rfl rfl
theorem wL_law_1501 : E_ d mL_law 1501 ls st h = E_ d mL_law 1502 ls (.int (nI 4) :: st) h := e_iconst dL_law_1501 kiconst_4 rfl
theorem wL_law_1502 : E_ d mL_law 1502 ls (.int y :: .int x :: st) h = E_ d mL_law 1503 ls (.int (x + y) :: st) h := e_go dL_law_1502 rfl rfl
theorem wL_law_1503 (ht : oT h a = 39) (hi : xix x (oN h a) = true) : E_ d mL_law 1503 ls (.int x :: .ref a :: st) h = E_ d mL_law 1504 ls (.int (oI h a x.toNatClampNeg) :: st) h := e_iald9 dL_law_1503 rfl ht hi
theorem wL_law_1504 (ht : oT h a = 7) : E_ (d + 1) mL_law 1504 ls [.int x4, .int x3, .int x2, .int x1, .ref a, .int x5] h = (C_ d mX5_clumps [.ref a, .int x1, .int x2, .int x3, .int x4] h).bind fun r => E_ (d + 1) mL_law 1507 ls (xpu r.1 [.int x5]) r.2 := e_vir dL_law_1504 rfl rfl rfl rfl rfl rfl (Nat.le_of_ble_eq_true rfl) (Nat.le_of_ble_eq_true rfl) ht
theorem wL_law_1507 : E_ d mL_law 1507 ls (.int y :: .int x :: st) h = if x = y then E_ d mL_law 1989 ls st h else E_ d mL_law 1510 ls st h := e_ieq dL_law_1507 rfl rfl
theorem wL_law_1510 : E_ d mL_law 1510 ls st h = E_ d mL_law 1511 ls (.int (nI 0) :: st) h := e_iconst dL_law_1510 kiconst_0 rfl
theorem wL_law_1511 (hx : x = 0 ∨ x = 1) : E_ d mL_law 1511 ls [.int x] h = some (some (.int x), h) := e_rtZ dL_law_1511 rfl hx
theorem wL_law_1512 : E_ d mL_law 1512 [s0, .val (.ref a), s2, s3] st h = E_ d mL_law 1513 [s0, .val (.ref a), s2, s3] (.ref a :: st) h := e_go dL_law_1512 rfl rfl
theorem wL_law_1513 : E_ d mL_law 1513 [.val (.ref a), s1, s2, s3] st h = E_ d mL_law 1514 [.val (.ref a), s1, s2, s3] (.ref a :: st) h := e_go dL_law_1513 rfl rfl
theorem wL_law_1514 : E_ d mL_law 1514 [s0, s1, s2, .val (.int x)] st h = E_ d mL_law 1515 [s0, s1, s2, .val (.int x)] (.int x :: st) h := e_go dL_law_1514 rfl rfl
theorem wL_law_1515 : E_ d mL_law 1515 ls st h = E_ d mL_law 1516 ls (.int (nI 1) :: st) h := e_iconst dL_law_1515 kiconst_1 rfl
theorem wL_law_1516 : E_ d mL_law 1516 ls (.int y :: .int x :: st) h = E_ d mL_law 1517 ls (.int (x + y) :: st) h := e_go dL_law_1516 rfl rfl
theorem wL_law_1517 (ht : oT h a = 39) (hi : xix x (oN h a) = true) : E_ d mL_law 1517 ls (.int x :: .ref a :: st) h = E_ d mL_law 1518 ls (.int (oI h a x.toNatClampNeg) :: st) h := e_iald9 dL_law_1517 rfl ht hi
theorem wL_law_1518 : E_ d mL_law 1518 [.val (.ref a), s1, s2, s3] st h = E_ d mL_law 1519 [.val (.ref a), s1, s2, s3] (.ref a :: st) h := e_go dL_law_1518 rfl rfl
theorem wL_law_1519 : E_ d mL_law 1519 [s0, s1, s2, .val (.int x)] st h = E_ d mL_law 1520 [s0, s1, s2, .val (.int x)] (.int x :: st) h := e_go dL_law_1519 rfl rfl
theorem wL_law_1520 : E_ d mL_law 1520 ls st h = E_ d mL_law 1521 ls (.int (nI 2) :: st) h := e_iconst dL_law_1520 kiconst_2 rfl
theorem wL_law_1521 : E_ d mL_law 1521 ls (.int y :: .int x :: st) h = E_ d mL_law 1522 ls (.int (x + y) :: st) h := e_go dL_law_1521 rfl rfl
theorem wL_law_1522 (ht : oT h a = 39) (hi : xix x (oN h a) = true) : E_ d mL_law 1522 ls (.int x :: .ref a :: st) h = E_ d mL_law 1523 ls (.int (oI h a x.toNatClampNeg) :: st) h := e_iald9 dL_law_1522 rfl ht hi
theorem wL_law_1523 : E_ d mL_law 1523 [.val (.ref a), s1, s2, s3] st h = E_ d mL_law 1524 [.val (.ref a), s1, s2, s3] (.ref a :: st) h := e_go dL_law_1523 rfl rfl
theorem wL_law_1524 : E_ d mL_law 1524 [s0, s1, s2, .val (.int x)] st h = E_ d mL_law 1525 [s0, s1, s2, .val (.int x)] (.int x :: st) h := e_go dL_law_1524 rfl rfl
theorem wL_law_1525 : E_ d mL_law 1525 ls st h = E_ d mL_law 1526 ls (.int (nI 3) :: st) h := e_iconst dL_law_1525 kiconst_3 rfl
theorem wL_law_1526 : E_ d mL_law 1526 ls (.int y :: .int x :: st) h = E_ d mL_law 1527 ls (.int (x + y) :: st) h := e_go dL_law_1526 rfl rfl
theorem wL_law_1527 (ht : oT h a = 39) (hi : xix x (oN h a) = true) : E_ d mL_law 1527 ls (.int x :: .ref a :: st) h = E_ d mL_law 1528 ls (.int (oI h a x.toNatClampNeg) :: st) h := e_iald9 dL_law_1527 rfl ht hi
theorem wL_law_1528 (ht : oT h a = 1) : E_ (d + 1) mL_law 1528 ls [.int x3, .int x2, .int x1, .ref a] h = (C_ d mX0_lamp [.ref a, .int x1, .int x2, .int x3] h).bind fun r => E_ (d + 1) mL_law 1531 ls (xpu r.1 []) r.2 := e_vir dL_law_1528 rfl rfl rfl rfl rfl rfl (Nat.le_of_ble_eq_true rfl) (Nat.le_of_ble_eq_true rfl) ht
theorem wL_law_1531 : E_ d mL_law 1531 [s0, s1, .val (.ref a), s3] st h = E_ d mL_law 1532 [s0, s1, .val (.ref a), s3] (.ref a :: st) h := e_go dL_law_1531 rfl rfl
theorem wL_law_1532 : E_ d mL_law 1532 [.val (.ref a), s1, s2, s3] st h = E_ d mL_law 1533 [.val (.ref a), s1, s2, s3] (.ref a :: st) h := e_go dL_law_1532 rfl rfl
theorem wL_law_1533 : E_ d mL_law 1533 [s0, s1, s2, .val (.int x)] st h = E_ d mL_law 1534 [s0, s1, s2, .val (.int x)] (.int x :: st) h := e_go dL_law_1533 rfl rfl
theorem wL_law_1534 : E_ d mL_law 1534 ls st h = E_ d mL_law 1535 ls (.int (nI 1) :: st) h := e_iconst dL_law_1534 kiconst_1 rfl
theorem wL_law_1535 : E_ d mL_law 1535 ls (.int y :: .int x :: st) h = E_ d mL_law 1536 ls (.int (x + y) :: st) h := e_go dL_law_1535 rfl rfl
theorem wL_law_1536 (ht : oT h a = 39) (hi : xix x (oN h a) = true) : E_ d mL_law 1536 ls (.int x :: .ref a :: st) h = E_ d mL_law 1537 ls (.int (oI h a x.toNatClampNeg) :: st) h := e_iald9 dL_law_1536 rfl ht hi
theorem wL_law_1537 : E_ d mL_law 1537 [.val (.ref a), s1, s2, s3] st h = E_ d mL_law 1538 [.val (.ref a), s1, s2, s3] (.ref a :: st) h := e_go dL_law_1537 rfl rfl
theorem wL_law_1538 : E_ d mL_law 1538 [s0, s1, s2, .val (.int x)] st h = E_ d mL_law 1539 [s0, s1, s2, .val (.int x)] (.int x :: st) h := e_go dL_law_1538 rfl rfl
theorem wL_law_1539 : E_ d mL_law 1539 ls st h = E_ d mL_law 1540 ls (.int (nI 2) :: st) h := e_iconst dL_law_1539 kiconst_2 rfl
theorem wL_law_1540 : E_ d mL_law 1540 ls (.int y :: .int x :: st) h = E_ d mL_law 1541 ls (.int (x + y) :: st) h := e_go dL_law_1540 rfl rfl
theorem wL_law_1541 (ht : oT h a = 39) (hi : xix x (oN h a) = true) : E_ d mL_law 1541 ls (.int x :: .ref a :: st) h = E_ d mL_law 1542 ls (.int (oI h a x.toNatClampNeg) :: st) h := e_iald9 dL_law_1541 rfl ht hi
theorem wL_law_1542 : E_ d mL_law 1542 [.val (.ref a), s1, s2, s3] st h = E_ d mL_law 1543 [.val (.ref a), s1, s2, s3] (.ref a :: st) h := e_go dL_law_1542 rfl rfl
theorem wL_law_1543 : E_ d mL_law 1543 [s0, s1, s2, .val (.int x)] st h = E_ d mL_law 1544 [s0, s1, s2, .val (.int x)] (.int x :: st) h := e_go dL_law_1543 rfl rfl
theorem wL_law_1544 : E_ d mL_law 1544 ls st h = E_ d mL_law 1545 ls (.int (nI 3) :: st) h := e_iconst dL_law_1544 kiconst_3 rfl
theorem wL_law_1545 : E_ d mL_law 1545 ls (.int y :: .int x :: st) h = E_ d mL_law 1546 ls (.int (x + y) :: st) h := e_go dL_law_1545 rfl rfl
theorem wL_law_1546 (ht : oT h a = 39) (hi : xix x (oN h a) = true) : E_ d mL_law 1546 ls (.int x :: .ref a :: st) h = E_ d mL_law 1547 ls (.int (oI h a x.toNatClampNeg) :: st) h := e_iald9 dL_law_1546 rfl ht hi
theorem wL_law_1547 (ht : oT h a = 7) : E_ (d + 1) mL_law 1547 ls [.int x3, .int x2, .int x1, .ref a, .int x4] h = (C_ d mX5_lamp [.ref a, .int x1, .int x2, .int x3] h).bind fun r => E_ (d + 1) mL_law 1550 ls (xpu r.1 [.int x4]) r.2 := e_vir dL_law_1547 rfl rfl rfl rfl rfl rfl (Nat.le_of_ble_eq_true rfl) (Nat.le_of_ble_eq_true rfl) ht
theorem wL_law_1550 : E_ d mL_law 1550 ls (.int y :: .int x :: st) h = if x = y then E_ d mL_law 1989 ls st h else E_ d mL_law 1553 ls st h := e_ieq dL_law_1550 rfl rfl
theorem wL_law_1553 : E_ d mL_law 1553 ls st h = E_ d mL_law 1554 ls (.int (nI 0) :: st) h := e_iconst dL_law_1553 kiconst_0 rfl
theorem wL_law_1554 (hx : x = 0 ∨ x = 1) : E_ d mL_law 1554 ls [.int x] h = some (some (.int x), h) := e_rtZ dL_law_1554 rfl hx
theorem wL_law_1555 : E_ d mL_law 1555 [s0, .val (.ref a), s2, s3] st h = E_ d mL_law 1556 [s0, .val (.ref a), s2, s3] (.ref a :: st) h := e_go dL_law_1555 rfl rfl
theorem wL_law_1556 : E_ d mL_law 1556 [.val (.ref a), s1, s2, s3] st h = E_ d mL_law 1557 [.val (.ref a), s1, s2, s3] (.ref a :: st) h := e_go dL_law_1556 rfl rfl
theorem wL_law_1557 : E_ d mL_law 1557 [s0, s1, s2, .val (.int x)] st h = E_ d mL_law 1558 [s0, s1, s2, .val (.int x)] (.int x :: st) h := e_go dL_law_1557 rfl rfl
theorem wL_law_1558 : E_ d mL_law 1558 ls st h = E_ d mL_law 1559 ls (.int (nI 1) :: st) h := e_iconst dL_law_1558 kiconst_1 rfl
theorem wL_law_1559 : E_ d mL_law 1559 ls (.int y :: .int x :: st) h = E_ d mL_law 1560 ls (.int (x + y) :: st) h := e_go dL_law_1559 rfl rfl
theorem wL_law_1560 (ht : oT h a = 39) (hi : xix x (oN h a) = true) : E_ d mL_law 1560 ls (.int x :: .ref a :: st) h = E_ d mL_law 1561 ls (.int (oI h a x.toNatClampNeg) :: st) h := e_iald9 dL_law_1560 rfl ht hi
theorem wL_law_1561 : E_ d mL_law 1561 [.val (.ref a), s1, s2, s3] st h = E_ d mL_law 1562 [.val (.ref a), s1, s2, s3] (.ref a :: st) h := e_go dL_law_1561 rfl rfl
theorem wL_law_1562 : E_ d mL_law 1562 [s0, s1, s2, .val (.int x)] st h = E_ d mL_law 1563 [s0, s1, s2, .val (.int x)] (.int x :: st) h := e_go dL_law_1562 rfl rfl
theorem wL_law_1563 : E_ d mL_law 1563 ls st h = E_ d mL_law 1564 ls (.int (nI 2) :: st) h := e_iconst dL_law_1563 kiconst_2 rfl
theorem wL_law_1564 : E_ d mL_law 1564 ls (.int y :: .int x :: st) h = E_ d mL_law 1565 ls (.int (x + y) :: st) h := e_go dL_law_1564 rfl rfl
theorem wL_law_1565 (ht : oT h a = 39) (hi : xix x (oN h a) = true) : E_ d mL_law 1565 ls (.int x :: .ref a :: st) h = E_ d mL_law 1566 ls (.int (oI h a x.toNatClampNeg) :: st) h := e_iald9 dL_law_1565 rfl ht hi
theorem wL_law_1566 : E_ d mL_law 1566 [.val (.ref a), s1, s2, s3] st h = E_ d mL_law 1567 [.val (.ref a), s1, s2, s3] (.ref a :: st) h := e_go dL_law_1566 rfl rfl
theorem wL_law_1567 : E_ d mL_law 1567 [s0, s1, s2, .val (.int x)] st h = E_ d mL_law 1568 [s0, s1, s2, .val (.int x)] (.int x :: st) h := e_go dL_law_1567 rfl rfl
theorem wL_law_1568 : E_ d mL_law 1568 ls st h = E_ d mL_law 1569 ls (.int (nI 3) :: st) h := e_iconst dL_law_1568 kiconst_3 rfl
theorem wL_law_1569 : E_ d mL_law 1569 ls (.int y :: .int x :: st) h = E_ d mL_law 1570 ls (.int (x + y) :: st) h := e_go dL_law_1569 rfl rfl
theorem wL_law_1570 (ht : oT h a = 39) (hi : xix x (oN h a) = true) : E_ d mL_law 1570 ls (.int x :: .ref a :: st) h = E_ d mL_law 1571 ls (.int (oI h a x.toNatClampNeg) :: st) h := e_iald9 dL_law_1570 rfl ht hi
theorem wL_law_1571 : E_ d mL_law 1571 [.val (.ref a), s1, s2, s3] st h = E_ d mL_law 1572 [.val (.ref a), s1, s2, s3] (.ref a :: st) h := e_go dL_law_1571 rfl rfl
theorem wL_law_1572 : E_ d mL_law 1572 [s0, s1, s2, .val (.int x)] st h = E_ d mL_law 1573 [s0, s1, s2, .val (.int x)] (.int x :: st) h := e_go dL_law_1572 rfl rfl
theorem wL_law_1573 : E_ d mL_law 1573 ls st h = E_ d mL_law 1574 ls (.int (nI 4) :: st) h := e_iconst dL_law_1573 kiconst_4 rfl
theorem wL_law_1574 : E_ d mL_law 1574 ls (.int y :: .int x :: st) h = E_ d mL_law 1575 ls (.int (x + y) :: st) h := e_go dL_law_1574 rfl rfl
theorem wL_law_1575 (ht : oT h a = 39) (hi : xix x (oN h a) = true) : E_ d mL_law 1575 ls (.int x :: .ref a :: st) h = E_ d mL_law 1576 ls (.int (oI h a x.toNatClampNeg) :: st) h := e_iald9 dL_law_1575 rfl ht hi
theorem wL_law_1576 (ht : oT h a = 1) : E_ (d + 1) mL_law 1576 ls [.int x4, .int x3, .int x2, .int x1, .ref a] h = (C_ d mX0_pay [.ref a, .int x1, .int x2, .int x3, .int x4] h).bind fun r => E_ (d + 1) mL_law 1579 ls (xpu r.1 []) r.2 := e_vir dL_law_1576 rfl rfl rfl rfl rfl rfl (Nat.le_of_ble_eq_true rfl) (Nat.le_of_ble_eq_true rfl) ht
theorem wL_law_1579 : E_ d mL_law 1579 [s0, s1, .val (.ref a), s3] st h = E_ d mL_law 1580 [s0, s1, .val (.ref a), s3] (.ref a :: st) h := e_go dL_law_1579 rfl rfl
theorem wL_law_1580 : E_ d mL_law 1580 [.val (.ref a), s1, s2, s3] st h = E_ d mL_law 1581 [.val (.ref a), s1, s2, s3] (.ref a :: st) h := e_go dL_law_1580 rfl rfl
theorem wL_law_1581 : E_ d mL_law 1581 [s0, s1, s2, .val (.int x)] st h = E_ d mL_law 1582 [s0, s1, s2, .val (.int x)] (.int x :: st) h := e_go dL_law_1581 rfl rfl
theorem wL_law_1582 : E_ d mL_law 1582 ls st h = E_ d mL_law 1583 ls (.int (nI 1) :: st) h := e_iconst dL_law_1582 kiconst_1 rfl
theorem wL_law_1583 : E_ d mL_law 1583 ls (.int y :: .int x :: st) h = E_ d mL_law 1584 ls (.int (x + y) :: st) h := e_go dL_law_1583 rfl rfl
theorem wL_law_1584 (ht : oT h a = 39) (hi : xix x (oN h a) = true) : E_ d mL_law 1584 ls (.int x :: .ref a :: st) h = E_ d mL_law 1585 ls (.int (oI h a x.toNatClampNeg) :: st) h := e_iald9 dL_law_1584 rfl ht hi
theorem wL_law_1585 : E_ d mL_law 1585 [.val (.ref a), s1, s2, s3] st h = E_ d mL_law 1586 [.val (.ref a), s1, s2, s3] (.ref a :: st) h := e_go dL_law_1585 rfl rfl
theorem wL_law_1586 : E_ d mL_law 1586 [s0, s1, s2, .val (.int x)] st h = E_ d mL_law 1587 [s0, s1, s2, .val (.int x)] (.int x :: st) h := e_go dL_law_1586 rfl rfl
theorem wL_law_1587 : E_ d mL_law 1587 ls st h = E_ d mL_law 1588 ls (.int (nI 2) :: st) h := e_iconst dL_law_1587 kiconst_2 rfl
theorem wL_law_1588 : E_ d mL_law 1588 ls (.int y :: .int x :: st) h = E_ d mL_law 1589 ls (.int (x + y) :: st) h := e_go dL_law_1588 rfl rfl
theorem wL_law_1589 (ht : oT h a = 39) (hi : xix x (oN h a) = true) : E_ d mL_law 1589 ls (.int x :: .ref a :: st) h = E_ d mL_law 1590 ls (.int (oI h a x.toNatClampNeg) :: st) h := e_iald9 dL_law_1589 rfl ht hi
theorem wL_law_1590 : E_ d mL_law 1590 [.val (.ref a), s1, s2, s3] st h = E_ d mL_law 1591 [.val (.ref a), s1, s2, s3] (.ref a :: st) h := e_go dL_law_1590 rfl rfl
theorem wL_law_1591 : E_ d mL_law 1591 [s0, s1, s2, .val (.int x)] st h = E_ d mL_law 1592 [s0, s1, s2, .val (.int x)] (.int x :: st) h := e_go dL_law_1591 rfl rfl
theorem wL_law_1592 : E_ d mL_law 1592 ls st h = E_ d mL_law 1593 ls (.int (nI 3) :: st) h := e_iconst dL_law_1592 kiconst_3 rfl
theorem wL_law_1593 : E_ d mL_law 1593 ls (.int y :: .int x :: st) h = E_ d mL_law 1594 ls (.int (x + y) :: st) h := e_go dL_law_1593 rfl rfl
theorem wL_law_1594 (ht : oT h a = 39) (hi : xix x (oN h a) = true) : E_ d mL_law 1594 ls (.int x :: .ref a :: st) h = E_ d mL_law 1595 ls (.int (oI h a x.toNatClampNeg) :: st) h := e_iald9 dL_law_1594 rfl ht hi
theorem wL_law_1595 : E_ d mL_law 1595 [.val (.ref a), s1, s2, s3] st h = E_ d mL_law 1596 [.val (.ref a), s1, s2, s3] (.ref a :: st) h := e_go dL_law_1595 rfl rfl
theorem wL_law_1596 : E_ d mL_law 1596 [s0, s1, s2, .val (.int x)] st h = E_ d mL_law 1597 [s0, s1, s2, .val (.int x)] (.int x :: st) h := e_go dL_law_1596 rfl rfl
theorem wL_law_1597 : E_ d mL_law 1597 ls st h = E_ d mL_law 1598 ls (.int (nI 4) :: st) h := e_iconst dL_law_1597 kiconst_4 rfl
theorem wL_law_1598 : E_ d mL_law 1598 ls (.int y :: .int x :: st) h = E_ d mL_law 1599 ls (.int (x + y) :: st) h := e_go dL_law_1598 rfl rfl
theorem wL_law_1599 (ht : oT h a = 39) (hi : xix x (oN h a) = true) : E_ d mL_law 1599 ls (.int x :: .ref a :: st) h = E_ d mL_law 1600 ls (.int (oI h a x.toNatClampNeg) :: st) h := e_iald9 dL_law_1599 rfl ht hi
theorem wL_law_1600 (ht : oT h a = 7) : E_ (d + 1) mL_law 1600 ls [.int x4, .int x3, .int x2, .int x1, .ref a, .int x5] h = (C_ d mX5_pay [.ref a, .int x1, .int x2, .int x3, .int x4] h).bind fun r => E_ (d + 1) mL_law 1603 ls (xpu r.1 [.int x5]) r.2 := e_vir dL_law_1600 rfl rfl rfl rfl rfl rfl (Nat.le_of_ble_eq_true rfl) (Nat.le_of_ble_eq_true rfl) ht
theorem wL_law_1603 : E_ d mL_law 1603 ls (.int y :: .int x :: st) h = if x = y then E_ d mL_law 1989 ls st h else E_ d mL_law 1606 ls st h := e_ieq dL_law_1603 rfl rfl
theorem wL_law_1606 : E_ d mL_law 1606 ls st h = E_ d mL_law 1607 ls (.int (nI 0) :: st) h := e_iconst dL_law_1606 kiconst_0 rfl
theorem wL_law_1607 (hx : x = 0 ∨ x = 1) : E_ d mL_law 1607 ls [.int x] h = some (some (.int x), h) := e_rtZ dL_law_1607 rfl hx
theorem wL_law_1608 : E_ d mL_law 1608 [s0, .val (.ref a), s2, s3] st h = E_ d mL_law 1609 [s0, .val (.ref a), s2, s3] (.ref a :: st) h := e_go dL_law_1608 rfl rfl
theorem wL_law_1609 : E_ d mL_law 1609 [.val (.ref a), s1, s2, s3] st h = E_ d mL_law 1610 [.val (.ref a), s1, s2, s3] (.ref a :: st) h := e_go dL_law_1609 rfl rfl
theorem wL_law_1610 : E_ d mL_law 1610 [s0, s1, s2, .val (.int x)] st h = E_ d mL_law 1611 [s0, s1, s2, .val (.int x)] (.int x :: st) h := e_go dL_law_1610 rfl rfl
theorem wL_law_1611 : E_ d mL_law 1611 ls st h = E_ d mL_law 1612 ls (.int (nI 1) :: st) h := e_iconst dL_law_1611 kiconst_1 rfl
theorem wL_law_1612 : E_ d mL_law 1612 ls (.int y :: .int x :: st) h = E_ d mL_law 1613 ls (.int (x + y) :: st) h := e_go dL_law_1612 rfl rfl
theorem wL_law_1613 (ht : oT h a = 39) (hi : xix x (oN h a) = true) : E_ d mL_law 1613 ls (.int x :: .ref a :: st) h = E_ d mL_law 1614 ls (.int (oI h a x.toNatClampNeg) :: st) h := e_iald9 dL_law_1613 rfl ht hi
theorem wL_law_1614 : E_ d mL_law 1614 [.val (.ref a), s1, s2, s3] st h = E_ d mL_law 1615 [.val (.ref a), s1, s2, s3] (.ref a :: st) h := e_go dL_law_1614 rfl rfl
theorem wL_law_1615 : E_ d mL_law 1615 [s0, s1, s2, .val (.int x)] st h = E_ d mL_law 1616 [s0, s1, s2, .val (.int x)] (.int x :: st) h := e_go dL_law_1615 rfl rfl
theorem wL_law_1616 : E_ d mL_law 1616 ls st h = E_ d mL_law 1617 ls (.int (nI 2) :: st) h := e_iconst dL_law_1616 kiconst_2 rfl
theorem wL_law_1617 : E_ d mL_law 1617 ls (.int y :: .int x :: st) h = E_ d mL_law 1618 ls (.int (x + y) :: st) h := e_go dL_law_1617 rfl rfl
theorem wL_law_1618 (ht : oT h a = 39) (hi : xix x (oN h a) = true) : E_ d mL_law 1618 ls (.int x :: .ref a :: st) h = E_ d mL_law 1619 ls (.int (oI h a x.toNatClampNeg) :: st) h := e_iald9 dL_law_1618 rfl ht hi
theorem wL_law_1619 : E_ d mL_law 1619 [.val (.ref a), s1, s2, s3] st h = E_ d mL_law 1620 [.val (.ref a), s1, s2, s3] (.ref a :: st) h := e_go dL_law_1619 rfl rfl
theorem wL_law_1620 : E_ d mL_law 1620 [s0, s1, s2, .val (.int x)] st h = E_ d mL_law 1621 [s0, s1, s2, .val (.int x)] (.int x :: st) h := e_go dL_law_1620 rfl rfl
theorem wL_law_1621 : E_ d mL_law 1621 ls st h = E_ d mL_law 1622 ls (.int (nI 3) :: st) h := e_iconst dL_law_1621 kiconst_3 rfl
theorem wL_law_1622 : E_ d mL_law 1622 ls (.int y :: .int x :: st) h = E_ d mL_law 1623 ls (.int (x + y) :: st) h := e_go dL_law_1622 rfl rfl
theorem wL_law_1623 (ht : oT h a = 39) (hi : xix x (oN h a) = true) : E_ d mL_law 1623 ls (.int x :: .ref a :: st) h = E_ d mL_law 1624 ls (.int (oI h a x.toNatClampNeg) :: st) h := e_iald9 dL_law_1623 rfl ht hi
theorem wL_law_1624 (ht : oT h a = 1) : E_ (d + 1) mL_law 1624 ls [.int x3, .int x2, .int x1, .ref a] h = (C_ d mX0_rests [.ref a, .int x1, .int x2, .int x3] h).bind fun r => E_ (d + 1) mL_law 1627 ls (xpu r.1 []) r.2 := e_vir dL_law_1624 rfl rfl rfl rfl rfl rfl (Nat.le_of_ble_eq_true rfl) (Nat.le_of_ble_eq_true rfl) ht
theorem wL_law_1627 : E_ d mL_law 1627 [s0, s1, .val (.ref a), s3] st h = E_ d mL_law 1628 [s0, s1, .val (.ref a), s3] (.ref a :: st) h := e_go dL_law_1627 rfl rfl
theorem wL_law_1628 : E_ d mL_law 1628 [.val (.ref a), s1, s2, s3] st h = E_ d mL_law 1629 [.val (.ref a), s1, s2, s3] (.ref a :: st) h := e_go dL_law_1628 rfl rfl
theorem wL_law_1629 : E_ d mL_law 1629 [s0, s1, s2, .val (.int x)] st h = E_ d mL_law 1630 [s0, s1, s2, .val (.int x)] (.int x :: st) h := e_go dL_law_1629 rfl rfl
theorem wL_law_1630 : E_ d mL_law 1630 ls st h = E_ d mL_law 1631 ls (.int (nI 1) :: st) h := e_iconst dL_law_1630 kiconst_1 rfl
theorem wL_law_1631 : E_ d mL_law 1631 ls (.int y :: .int x :: st) h = E_ d mL_law 1632 ls (.int (x + y) :: st) h := e_go dL_law_1631 rfl rfl
theorem wL_law_1632 (ht : oT h a = 39) (hi : xix x (oN h a) = true) : E_ d mL_law 1632 ls (.int x :: .ref a :: st) h = E_ d mL_law 1633 ls (.int (oI h a x.toNatClampNeg) :: st) h := e_iald9 dL_law_1632 rfl ht hi
theorem wL_law_1633 : E_ d mL_law 1633 [.val (.ref a), s1, s2, s3] st h = E_ d mL_law 1634 [.val (.ref a), s1, s2, s3] (.ref a :: st) h := e_go dL_law_1633 rfl rfl
theorem wL_law_1634 : E_ d mL_law 1634 [s0, s1, s2, .val (.int x)] st h = E_ d mL_law 1635 [s0, s1, s2, .val (.int x)] (.int x :: st) h := e_go dL_law_1634 rfl rfl
theorem wL_law_1635 : E_ d mL_law 1635 ls st h = E_ d mL_law 1636 ls (.int (nI 2) :: st) h := e_iconst dL_law_1635 kiconst_2 rfl
theorem wL_law_1636 : E_ d mL_law 1636 ls (.int y :: .int x :: st) h = E_ d mL_law 1637 ls (.int (x + y) :: st) h := e_go dL_law_1636 rfl rfl
theorem wL_law_1637 (ht : oT h a = 39) (hi : xix x (oN h a) = true) : E_ d mL_law 1637 ls (.int x :: .ref a :: st) h = E_ d mL_law 1638 ls (.int (oI h a x.toNatClampNeg) :: st) h := e_iald9 dL_law_1637 rfl ht hi
theorem wL_law_1638 : E_ d mL_law 1638 [.val (.ref a), s1, s2, s3] st h = E_ d mL_law 1639 [.val (.ref a), s1, s2, s3] (.ref a :: st) h := e_go dL_law_1638 rfl rfl
theorem wL_law_1639 : E_ d mL_law 1639 [s0, s1, s2, .val (.int x)] st h = E_ d mL_law 1640 [s0, s1, s2, .val (.int x)] (.int x :: st) h := e_go dL_law_1639 rfl rfl
theorem wL_law_1640 : E_ d mL_law 1640 ls st h = E_ d mL_law 1641 ls (.int (nI 3) :: st) h := e_iconst dL_law_1640 kiconst_3 rfl
theorem wL_law_1641 : E_ d mL_law 1641 ls (.int y :: .int x :: st) h = E_ d mL_law 1642 ls (.int (x + y) :: st) h := e_go dL_law_1641 rfl rfl
theorem wL_law_1642 (ht : oT h a = 39) (hi : xix x (oN h a) = true) : E_ d mL_law 1642 ls (.int x :: .ref a :: st) h = E_ d mL_law 1643 ls (.int (oI h a x.toNatClampNeg) :: st) h := e_iald9 dL_law_1642 rfl ht hi
theorem wL_law_1643 (ht : oT h a = 7) : E_ (d + 1) mL_law 1643 ls [.int x3, .int x2, .int x1, .ref a, .int x4] h = (C_ d mX5_rests [.ref a, .int x1, .int x2, .int x3] h).bind fun r => E_ (d + 1) mL_law 1646 ls (xpu r.1 [.int x4]) r.2 := e_vir dL_law_1643 rfl rfl rfl rfl rfl rfl (Nat.le_of_ble_eq_true rfl) (Nat.le_of_ble_eq_true rfl) ht
theorem wL_law_1646 : E_ d mL_law 1646 ls (.int y :: .int x :: st) h = if x = y then E_ d mL_law 1989 ls st h else E_ d mL_law 1649 ls st h := e_ieq dL_law_1646 rfl rfl
theorem wL_law_1649 : E_ d mL_law 1649 ls st h = E_ d mL_law 1650 ls (.int (nI 0) :: st) h := e_iconst dL_law_1649 kiconst_0 rfl
theorem wL_law_1650 (hx : x = 0 ∨ x = 1) : E_ d mL_law 1650 ls [.int x] h = some (some (.int x), h) := e_rtZ dL_law_1650 rfl hx
theorem wL_law_1651 : E_ d mL_law 1651 [s0, .val (.ref a), s2, s3] st h = E_ d mL_law 1652 [s0, .val (.ref a), s2, s3] (.ref a :: st) h := e_go dL_law_1651 rfl rfl
theorem wL_law_1652 : E_ d mL_law 1652 [.val (.ref a), s1, s2, s3] st h = E_ d mL_law 1653 [.val (.ref a), s1, s2, s3] (.ref a :: st) h := e_go dL_law_1652 rfl rfl
theorem wL_law_1653 : E_ d mL_law 1653 [s0, s1, s2, .val (.int x)] st h = E_ d mL_law 1654 [s0, s1, s2, .val (.int x)] (.int x :: st) h := e_go dL_law_1653 rfl rfl
theorem wL_law_1654 : E_ d mL_law 1654 ls st h = E_ d mL_law 1655 ls (.int (nI 1) :: st) h := e_iconst dL_law_1654 kiconst_1 rfl
theorem wL_law_1655 : E_ d mL_law 1655 ls (.int y :: .int x :: st) h = E_ d mL_law 1656 ls (.int (x + y) :: st) h := e_go dL_law_1655 rfl rfl
theorem wL_law_1656 (ht : oT h a = 39) (hi : xix x (oN h a) = true) : E_ d mL_law 1656 ls (.int x :: .ref a :: st) h = E_ d mL_law 1657 ls (.int (oI h a x.toNatClampNeg) :: st) h := e_iald9 dL_law_1656 rfl ht hi
theorem wL_law_1657 : E_ d mL_law 1657 [.val (.ref a), s1, s2, s3] st h = E_ d mL_law 1658 [.val (.ref a), s1, s2, s3] (.ref a :: st) h := e_go dL_law_1657 rfl rfl
theorem wL_law_1658 : E_ d mL_law 1658 [s0, s1, s2, .val (.int x)] st h = E_ d mL_law 1659 [s0, s1, s2, .val (.int x)] (.int x :: st) h := e_go dL_law_1658 rfl rfl
theorem wL_law_1659 : E_ d mL_law 1659 ls st h = E_ d mL_law 1660 ls (.int (nI 2) :: st) h := e_iconst dL_law_1659 kiconst_2 rfl
theorem wL_law_1660 : E_ d mL_law 1660 ls (.int y :: .int x :: st) h = E_ d mL_law 1661 ls (.int (x + y) :: st) h := e_go dL_law_1660 rfl rfl
theorem wL_law_1661 (ht : oT h a = 39) (hi : xix x (oN h a) = true) : E_ d mL_law 1661 ls (.int x :: .ref a :: st) h = E_ d mL_law 1662 ls (.int (oI h a x.toNatClampNeg) :: st) h := e_iald9 dL_law_1661 rfl ht hi
theorem wL_law_1662 : E_ d mL_law 1662 [.val (.ref a), s1, s2, s3] st h = E_ d mL_law 1663 [.val (.ref a), s1, s2, s3] (.ref a :: st) h := e_go dL_law_1662 rfl rfl
theorem wL_law_1663 : E_ d mL_law 1663 [s0, s1, s2, .val (.int x)] st h = E_ d mL_law 1664 [s0, s1, s2, .val (.int x)] (.int x :: st) h := e_go dL_law_1663 rfl rfl
theorem wL_law_1664 : E_ d mL_law 1664 ls st h = E_ d mL_law 1665 ls (.int (nI 3) :: st) h := e_iconst dL_law_1664 kiconst_3 rfl
theorem wL_law_1665 : E_ d mL_law 1665 ls (.int y :: .int x :: st) h = E_ d mL_law 1666 ls (.int (x + y) :: st) h := e_go dL_law_1665 rfl rfl
theorem wL_law_1666 (ht : oT h a = 39) (hi : xix x (oN h a) = true) : E_ d mL_law 1666 ls (.int x :: .ref a :: st) h = E_ d mL_law 1667 ls (.int (oI h a x.toNatClampNeg) :: st) h := e_iald9 dL_law_1666 rfl ht hi
theorem wL_law_1667 : E_ d mL_law 1667 [.val (.ref a), s1, s2, s3] st h = E_ d mL_law 1668 [.val (.ref a), s1, s2, s3] (.ref a :: st) h := e_go dL_law_1667 rfl rfl
theorem wL_law_1668 : E_ d mL_law 1668 [s0, s1, s2, .val (.int x)] st h = E_ d mL_law 1669 [s0, s1, s2, .val (.int x)] (.int x :: st) h := e_go dL_law_1668 rfl rfl
theorem wL_law_1669 : E_ d mL_law 1669 ls st h = E_ d mL_law 1670 ls (.int (nI 4) :: st) h := e_iconst dL_law_1669 kiconst_4 rfl
theorem wL_law_1670 : E_ d mL_law 1670 ls (.int y :: .int x :: st) h = E_ d mL_law 1671 ls (.int (x + y) :: st) h := e_go dL_law_1670 rfl rfl
theorem wL_law_1671 (ht : oT h a = 39) (hi : xix x (oN h a) = true) : E_ d mL_law 1671 ls (.int x :: .ref a :: st) h = E_ d mL_law 1672 ls (.int (oI h a x.toNatClampNeg) :: st) h := e_iald9 dL_law_1671 rfl ht hi
theorem wL_law_1672 : E_ d mL_law 1672 [.val (.ref a), s1, s2, s3] st h = E_ d mL_law 1673 [.val (.ref a), s1, s2, s3] (.ref a :: st) h := e_go dL_law_1672 rfl rfl
theorem wL_law_1673 : E_ d mL_law 1673 [s0, s1, s2, .val (.int x)] st h = E_ d mL_law 1674 [s0, s1, s2, .val (.int x)] (.int x :: st) h := e_go dL_law_1673 rfl rfl
theorem wL_law_1674 : E_ d mL_law 1674 ls st h = E_ d mL_law 1675 ls (.int (nI 5) :: st) h := e_iconst dL_law_1674 kiconst_5 rfl
theorem wL_law_1675 : E_ d mL_law 1675 ls (.int y :: .int x :: st) h = E_ d mL_law 1676 ls (.int (x + y) :: st) h := e_go dL_law_1675 rfl rfl
theorem wL_law_1676 (ht : oT h a = 39) (hi : xix x (oN h a) = true) : E_ d mL_law 1676 ls (.int x :: .ref a :: st) h = E_ d mL_law 1677 ls (.int (oI h a x.toNatClampNeg) :: st) h := e_iald9 dL_law_1676 rfl ht hi
theorem wL_law_1677 (ht : oT h a = 1) : E_ (d + 1) mL_law 1677 ls [.int x5, .int x4, .int x3, .int x2, .int x1, .ref a] h = (C_ d mX0_thanks [.ref a, .int x1, .int x2, .int x3, .int x4, .int x5] h).bind fun r => E_ (d + 1) mL_law 1680 ls (xpu r.1 []) r.2 := e_vir dL_law_1677 rfl rfl rfl rfl rfl rfl (Nat.le_of_ble_eq_true rfl) (Nat.le_of_ble_eq_true rfl) ht
theorem wL_law_1680 : E_ d mL_law 1680 [s0, s1, .val (.ref a), s3] st h = E_ d mL_law 1681 [s0, s1, .val (.ref a), s3] (.ref a :: st) h := e_go dL_law_1680 rfl rfl
theorem wL_law_1681 : E_ d mL_law 1681 [.val (.ref a), s1, s2, s3] st h = E_ d mL_law 1682 [.val (.ref a), s1, s2, s3] (.ref a :: st) h := e_go dL_law_1681 rfl rfl
theorem wL_law_1682 : E_ d mL_law 1682 [s0, s1, s2, .val (.int x)] st h = E_ d mL_law 1683 [s0, s1, s2, .val (.int x)] (.int x :: st) h := e_go dL_law_1682 rfl rfl
theorem wL_law_1683 : E_ d mL_law 1683 ls st h = E_ d mL_law 1684 ls (.int (nI 1) :: st) h := e_iconst dL_law_1683 kiconst_1 rfl
theorem wL_law_1684 : E_ d mL_law 1684 ls (.int y :: .int x :: st) h = E_ d mL_law 1685 ls (.int (x + y) :: st) h := e_go dL_law_1684 rfl rfl
theorem wL_law_1685 (ht : oT h a = 39) (hi : xix x (oN h a) = true) : E_ d mL_law 1685 ls (.int x :: .ref a :: st) h = E_ d mL_law 1686 ls (.int (oI h a x.toNatClampNeg) :: st) h := e_iald9 dL_law_1685 rfl ht hi
theorem wL_law_1686 : E_ d mL_law 1686 [.val (.ref a), s1, s2, s3] st h = E_ d mL_law 1687 [.val (.ref a), s1, s2, s3] (.ref a :: st) h := e_go dL_law_1686 rfl rfl
theorem wL_law_1687 : E_ d mL_law 1687 [s0, s1, s2, .val (.int x)] st h = E_ d mL_law 1688 [s0, s1, s2, .val (.int x)] (.int x :: st) h := e_go dL_law_1687 rfl rfl
theorem wL_law_1688 : E_ d mL_law 1688 ls st h = E_ d mL_law 1689 ls (.int (nI 2) :: st) h := e_iconst dL_law_1688 kiconst_2 rfl
theorem wL_law_1689 : E_ d mL_law 1689 ls (.int y :: .int x :: st) h = E_ d mL_law 1690 ls (.int (x + y) :: st) h := e_go dL_law_1689 rfl rfl
theorem wL_law_1690 (ht : oT h a = 39) (hi : xix x (oN h a) = true) : E_ d mL_law 1690 ls (.int x :: .ref a :: st) h = E_ d mL_law 1691 ls (.int (oI h a x.toNatClampNeg) :: st) h := e_iald9 dL_law_1690 rfl ht hi
theorem wL_law_1691 : E_ d mL_law 1691 [.val (.ref a), s1, s2, s3] st h = E_ d mL_law 1692 [.val (.ref a), s1, s2, s3] (.ref a :: st) h := e_go dL_law_1691 rfl rfl
theorem wL_law_1692 : E_ d mL_law 1692 [s0, s1, s2, .val (.int x)] st h = E_ d mL_law 1693 [s0, s1, s2, .val (.int x)] (.int x :: st) h := e_go dL_law_1692 rfl rfl
theorem wL_law_1693 : E_ d mL_law 1693 ls st h = E_ d mL_law 1694 ls (.int (nI 3) :: st) h := e_iconst dL_law_1693 kiconst_3 rfl
theorem wL_law_1694 : E_ d mL_law 1694 ls (.int y :: .int x :: st) h = E_ d mL_law 1695 ls (.int (x + y) :: st) h := e_go dL_law_1694 rfl rfl
theorem wL_law_1695 (ht : oT h a = 39) (hi : xix x (oN h a) = true) : E_ d mL_law 1695 ls (.int x :: .ref a :: st) h = E_ d mL_law 1696 ls (.int (oI h a x.toNatClampNeg) :: st) h := e_iald9 dL_law_1695 rfl ht hi
theorem wL_law_1696 : E_ d mL_law 1696 [.val (.ref a), s1, s2, s3] st h = E_ d mL_law 1697 [.val (.ref a), s1, s2, s3] (.ref a :: st) h := e_go dL_law_1696 rfl rfl
theorem wL_law_1697 : E_ d mL_law 1697 [s0, s1, s2, .val (.int x)] st h = E_ d mL_law 1698 [s0, s1, s2, .val (.int x)] (.int x :: st) h := e_go dL_law_1697 rfl rfl
theorem wL_law_1698 : E_ d mL_law 1698 ls st h = E_ d mL_law 1699 ls (.int (nI 4) :: st) h := e_iconst dL_law_1698 kiconst_4 rfl
theorem wL_law_1699 : E_ d mL_law 1699 ls (.int y :: .int x :: st) h = E_ d mL_law 1700 ls (.int (x + y) :: st) h := e_go dL_law_1699 rfl rfl
theorem wL_law_1700 (ht : oT h a = 39) (hi : xix x (oN h a) = true) : E_ d mL_law 1700 ls (.int x :: .ref a :: st) h = E_ d mL_law 1701 ls (.int (oI h a x.toNatClampNeg) :: st) h := e_iald9 dL_law_1700 rfl ht hi
theorem wL_law_1701 : E_ d mL_law 1701 [.val (.ref a), s1, s2, s3] st h = E_ d mL_law 1702 [.val (.ref a), s1, s2, s3] (.ref a :: st) h := e_go dL_law_1701 rfl rfl
theorem wL_law_1702 : E_ d mL_law 1702 [s0, s1, s2, .val (.int x)] st h = E_ d mL_law 1703 [s0, s1, s2, .val (.int x)] (.int x :: st) h := e_go dL_law_1702 rfl rfl
theorem wL_law_1703 : E_ d mL_law 1703 ls st h = E_ d mL_law 1704 ls (.int (nI 5) :: st) h := e_iconst dL_law_1703 kiconst_5 rfl
theorem wL_law_1704 : E_ d mL_law 1704 ls (.int y :: .int x :: st) h = E_ d mL_law 1705 ls (.int (x + y) :: st) h := e_go dL_law_1704 rfl rfl
theorem wL_law_1705 (ht : oT h a = 39) (hi : xix x (oN h a) = true) : E_ d mL_law 1705 ls (.int x :: .ref a :: st) h = E_ d mL_law 1706 ls (.int (oI h a x.toNatClampNeg) :: st) h := e_iald9 dL_law_1705 rfl ht hi
theorem wL_law_1706 (ht : oT h a = 7) : E_ (d + 1) mL_law 1706 ls [.int x5, .int x4, .int x3, .int x2, .int x1, .ref a, .int x6] h = (C_ d mX5_thanks [.ref a, .int x1, .int x2, .int x3, .int x4, .int x5] h).bind fun r => E_ (d + 1) mL_law 1709 ls (xpu r.1 [.int x6]) r.2 := e_vir dL_law_1706 rfl rfl rfl rfl rfl rfl (Nat.le_of_ble_eq_true rfl) (Nat.le_of_ble_eq_true rfl) ht
theorem wL_law_1709 : E_ d mL_law 1709 ls (.int y :: .int x :: st) h = if x = y then E_ d mL_law 1989 ls st h else E_ d mL_law 1712 ls st h := e_ieq dL_law_1709 rfl rfl
theorem wL_law_1712 : E_ d mL_law 1712 ls st h = E_ d mL_law 1713 ls (.int (nI 0) :: st) h := e_iconst dL_law_1712 kiconst_0 rfl
theorem wL_law_1713 (hx : x = 0 ∨ x = 1) : E_ d mL_law 1713 ls [.int x] h = some (some (.int x), h) := e_rtZ dL_law_1713 rfl hx
theorem wL_law_1714 : E_ d mL_law 1714 [s0, .val (.ref a), s2, s3] st h = E_ d mL_law 1715 [s0, .val (.ref a), s2, s3] (.ref a :: st) h := e_go dL_law_1714 rfl rfl
theorem wL_law_1715 : E_ d mL_law 1715 [.val (.ref a), s1, s2, s3] st h = E_ d mL_law 1716 [.val (.ref a), s1, s2, s3] (.ref a :: st) h := e_go dL_law_1715 rfl rfl
theorem wL_law_1716 : E_ d mL_law 1716 [s0, s1, s2, .val (.int x)] st h = E_ d mL_law 1717 [s0, s1, s2, .val (.int x)] (.int x :: st) h := e_go dL_law_1716 rfl rfl
theorem wL_law_1717 : E_ d mL_law 1717 ls st h = E_ d mL_law 1718 ls (.int (nI 1) :: st) h := e_iconst dL_law_1717 kiconst_1 rfl
theorem wL_law_1718 : E_ d mL_law 1718 ls (.int y :: .int x :: st) h = E_ d mL_law 1719 ls (.int (x + y) :: st) h := e_go dL_law_1718 rfl rfl
theorem wL_law_1719 (ht : oT h a = 39) (hi : xix x (oN h a) = true) : E_ d mL_law 1719 ls (.int x :: .ref a :: st) h = E_ d mL_law 1720 ls (.int (oI h a x.toNatClampNeg) :: st) h := e_iald9 dL_law_1719 rfl ht hi
theorem wL_law_1720 : E_ d mL_law 1720 [.val (.ref a), s1, s2, s3] st h = E_ d mL_law 1721 [.val (.ref a), s1, s2, s3] (.ref a :: st) h := e_go dL_law_1720 rfl rfl
theorem wL_law_1721 : E_ d mL_law 1721 [s0, s1, s2, .val (.int x)] st h = E_ d mL_law 1722 [s0, s1, s2, .val (.int x)] (.int x :: st) h := e_go dL_law_1721 rfl rfl
theorem wL_law_1722 : E_ d mL_law 1722 ls st h = E_ d mL_law 1723 ls (.int (nI 2) :: st) h := e_iconst dL_law_1722 kiconst_2 rfl
theorem wL_law_1723 : E_ d mL_law 1723 ls (.int y :: .int x :: st) h = E_ d mL_law 1724 ls (.int (x + y) :: st) h := e_go dL_law_1723 rfl rfl
theorem wL_law_1724 (ht : oT h a = 39) (hi : xix x (oN h a) = true) : E_ d mL_law 1724 ls (.int x :: .ref a :: st) h = E_ d mL_law 1725 ls (.int (oI h a x.toNatClampNeg) :: st) h := e_iald9 dL_law_1724 rfl ht hi
theorem wL_law_1725 (ht : oT h a = 1) : E_ (d + 1) mL_law 1725 ls [.int x2, .int x1, .ref a] h = (C_ d mX0_filled [.ref a, .int x1, .int x2] h).bind fun r => E_ (d + 1) mL_law 1728 ls (xpu r.1 []) r.2 := e_vir dL_law_1725 rfl rfl rfl rfl rfl rfl (Nat.le_of_ble_eq_true rfl) (Nat.le_of_ble_eq_true rfl) ht
theorem wL_law_1728 : E_ d mL_law 1728 [s0, s1, .val (.ref a), s3] st h = E_ d mL_law 1729 [s0, s1, .val (.ref a), s3] (.ref a :: st) h := e_go dL_law_1728 rfl rfl
theorem wL_law_1729 : E_ d mL_law 1729 [.val (.ref a), s1, s2, s3] st h = E_ d mL_law 1730 [.val (.ref a), s1, s2, s3] (.ref a :: st) h := e_go dL_law_1729 rfl rfl
theorem wL_law_1730 : E_ d mL_law 1730 [s0, s1, s2, .val (.int x)] st h = E_ d mL_law 1731 [s0, s1, s2, .val (.int x)] (.int x :: st) h := e_go dL_law_1730 rfl rfl
theorem wL_law_1731 : E_ d mL_law 1731 ls st h = E_ d mL_law 1732 ls (.int (nI 1) :: st) h := e_iconst dL_law_1731 kiconst_1 rfl
theorem wL_law_1732 : E_ d mL_law 1732 ls (.int y :: .int x :: st) h = E_ d mL_law 1733 ls (.int (x + y) :: st) h := e_go dL_law_1732 rfl rfl
theorem wL_law_1733 (ht : oT h a = 39) (hi : xix x (oN h a) = true) : E_ d mL_law 1733 ls (.int x :: .ref a :: st) h = E_ d mL_law 1734 ls (.int (oI h a x.toNatClampNeg) :: st) h := e_iald9 dL_law_1733 rfl ht hi
theorem wL_law_1734 : E_ d mL_law 1734 [.val (.ref a), s1, s2, s3] st h = E_ d mL_law 1735 [.val (.ref a), s1, s2, s3] (.ref a :: st) h := e_go dL_law_1734 rfl rfl
theorem wL_law_1735 : E_ d mL_law 1735 [s0, s1, s2, .val (.int x)] st h = E_ d mL_law 1736 [s0, s1, s2, .val (.int x)] (.int x :: st) h := e_go dL_law_1735 rfl rfl
theorem wL_law_1736 : E_ d mL_law 1736 ls st h = E_ d mL_law 1737 ls (.int (nI 2) :: st) h := e_iconst dL_law_1736 kiconst_2 rfl
theorem wL_law_1737 : E_ d mL_law 1737 ls (.int y :: .int x :: st) h = E_ d mL_law 1738 ls (.int (x + y) :: st) h := e_go dL_law_1737 rfl rfl
theorem wL_law_1738 (ht : oT h a = 39) (hi : xix x (oN h a) = true) : E_ d mL_law 1738 ls (.int x :: .ref a :: st) h = E_ d mL_law 1739 ls (.int (oI h a x.toNatClampNeg) :: st) h := e_iald9 dL_law_1738 rfl ht hi
theorem wL_law_1739 (ht : oT h a = 7) : E_ (d + 1) mL_law 1739 ls [.int x2, .int x1, .ref a, .int x3] h = (C_ d mX5_filled [.ref a, .int x1, .int x2] h).bind fun r => E_ (d + 1) mL_law 1742 ls (xpu r.1 [.int x3]) r.2 := e_vir dL_law_1739 rfl rfl rfl rfl rfl rfl (Nat.le_of_ble_eq_true rfl) (Nat.le_of_ble_eq_true rfl) ht
theorem wL_law_1742 : E_ d mL_law 1742 ls (.int y :: .int x :: st) h = if x = y then E_ d mL_law 1989 ls st h else E_ d mL_law 1745 ls st h := e_ieq dL_law_1742 rfl rfl
theorem wL_law_1745 : E_ d mL_law 1745 ls st h = E_ d mL_law 1746 ls (.int (nI 0) :: st) h := e_iconst dL_law_1745 kiconst_0 rfl
theorem wL_law_1746 (hx : x = 0 ∨ x = 1) : E_ d mL_law 1746 ls [.int x] h = some (some (.int x), h) := e_rtZ dL_law_1746 rfl hx
theorem wL_law_1747 : E_ d mL_law 1747 [s0, .val (.ref a), s2, s3] st h = E_ d mL_law 1748 [s0, .val (.ref a), s2, s3] (.ref a :: st) h := e_go dL_law_1747 rfl rfl
theorem wL_law_1748 : E_ d mL_law 1748 [.val (.ref a), s1, s2, s3] st h = E_ d mL_law 1749 [.val (.ref a), s1, s2, s3] (.ref a :: st) h := e_go dL_law_1748 rfl rfl
theorem wL_law_1749 : E_ d mL_law 1749 [s0, s1, s2, .val (.int x)] st h = E_ d mL_law 1750 [s0, s1, s2, .val (.int x)] (.int x :: st) h := e_go dL_law_1749 rfl rfl
theorem wL_law_1750 : E_ d mL_law 1750 ls st h = E_ d mL_law 1751 ls (.int (nI 1) :: st) h := e_iconst dL_law_1750 kiconst_1 rfl
theorem wL_law_1751 : E_ d mL_law 1751 ls (.int y :: .int x :: st) h = E_ d mL_law 1752 ls (.int (x + y) :: st) h := e_go dL_law_1751 rfl rfl
theorem wL_law_1752 (ht : oT h a = 39) (hi : xix x (oN h a) = true) : E_ d mL_law 1752 ls (.int x :: .ref a :: st) h = E_ d mL_law 1753 ls (.int (oI h a x.toNatClampNeg) :: st) h := e_iald9 dL_law_1752 rfl ht hi
theorem wL_law_1753 : E_ d mL_law 1753 [.val (.ref a), s1, s2, s3] st h = E_ d mL_law 1754 [.val (.ref a), s1, s2, s3] (.ref a :: st) h := e_go dL_law_1753 rfl rfl
theorem wL_law_1754 : E_ d mL_law 1754 [s0, s1, s2, .val (.int x)] st h = E_ d mL_law 1755 [s0, s1, s2, .val (.int x)] (.int x :: st) h := e_go dL_law_1754 rfl rfl
theorem wL_law_1755 : E_ d mL_law 1755 ls st h = E_ d mL_law 1756 ls (.int (nI 2) :: st) h := e_iconst dL_law_1755 kiconst_2 rfl
theorem wL_law_1756 : E_ d mL_law 1756 ls (.int y :: .int x :: st) h = E_ d mL_law 1757 ls (.int (x + y) :: st) h := e_go dL_law_1756 rfl rfl
theorem wL_law_1757 (ht : oT h a = 39) (hi : xix x (oN h a) = true) : E_ d mL_law 1757 ls (.int x :: .ref a :: st) h = E_ d mL_law 1758 ls (.int (oI h a x.toNatClampNeg) :: st) h := e_iald9 dL_law_1757 rfl ht hi
theorem wL_law_1758 (ht : oT h a = 1) : E_ (d + 1) mL_law 1758 ls [.int x2, .int x1, .ref a] h = (C_ d mX0_slip [.ref a, .int x1, .int x2] h).bind fun r => E_ (d + 1) mL_law 1761 ls (xpu r.1 []) r.2 := e_vir dL_law_1758 rfl rfl rfl rfl rfl rfl (Nat.le_of_ble_eq_true rfl) (Nat.le_of_ble_eq_true rfl) ht
theorem wL_law_1761 : E_ d mL_law 1761 [s0, s1, .val (.ref a), s3] st h = E_ d mL_law 1762 [s0, s1, .val (.ref a), s3] (.ref a :: st) h := e_go dL_law_1761 rfl rfl
theorem wL_law_1762 : E_ d mL_law 1762 [.val (.ref a), s1, s2, s3] st h = E_ d mL_law 1763 [.val (.ref a), s1, s2, s3] (.ref a :: st) h := e_go dL_law_1762 rfl rfl
theorem wL_law_1763 : E_ d mL_law 1763 [s0, s1, s2, .val (.int x)] st h = E_ d mL_law 1764 [s0, s1, s2, .val (.int x)] (.int x :: st) h := e_go dL_law_1763 rfl rfl
theorem wL_law_1764 : E_ d mL_law 1764 ls st h = E_ d mL_law 1765 ls (.int (nI 1) :: st) h := e_iconst dL_law_1764 kiconst_1 rfl
theorem wL_law_1765 : E_ d mL_law 1765 ls (.int y :: .int x :: st) h = E_ d mL_law 1766 ls (.int (x + y) :: st) h := e_go dL_law_1765 rfl rfl
theorem wL_law_1766 (ht : oT h a = 39) (hi : xix x (oN h a) = true) : E_ d mL_law 1766 ls (.int x :: .ref a :: st) h = E_ d mL_law 1767 ls (.int (oI h a x.toNatClampNeg) :: st) h := e_iald9 dL_law_1766 rfl ht hi
theorem wL_law_1767 : E_ d mL_law 1767 [.val (.ref a), s1, s2, s3] st h = E_ d mL_law 1768 [.val (.ref a), s1, s2, s3] (.ref a :: st) h := e_go dL_law_1767 rfl rfl
theorem wL_law_1768 : E_ d mL_law 1768 [s0, s1, s2, .val (.int x)] st h = E_ d mL_law 1769 [s0, s1, s2, .val (.int x)] (.int x :: st) h := e_go dL_law_1768 rfl rfl
theorem wL_law_1769 : E_ d mL_law 1769 ls st h = E_ d mL_law 1770 ls (.int (nI 2) :: st) h := e_iconst dL_law_1769 kiconst_2 rfl
theorem wL_law_1770 : E_ d mL_law 1770 ls (.int y :: .int x :: st) h = E_ d mL_law 1771 ls (.int (x + y) :: st) h := e_go dL_law_1770 rfl rfl
theorem wL_law_1771 (ht : oT h a = 39) (hi : xix x (oN h a) = true) : E_ d mL_law 1771 ls (.int x :: .ref a :: st) h = E_ d mL_law 1772 ls (.int (oI h a x.toNatClampNeg) :: st) h := e_iald9 dL_law_1771 rfl ht hi
theorem wL_law_1772 (ht : oT h a = 7) : E_ (d + 1) mL_law 1772 ls [.int x2, .int x1, .ref a, .int x3] h = (C_ d mX5_slip [.ref a, .int x1, .int x2] h).bind fun r => E_ (d + 1) mL_law 1775 ls (xpu r.1 [.int x3]) r.2 := e_vir dL_law_1772 rfl rfl rfl rfl rfl rfl (Nat.le_of_ble_eq_true rfl) (Nat.le_of_ble_eq_true rfl) ht
theorem wL_law_1775 : E_ d mL_law 1775 ls (.int y :: .int x :: st) h = if x = y then E_ d mL_law 1989 ls st h else E_ d mL_law 1778 ls st h := e_ieq dL_law_1775 rfl rfl
theorem wL_law_1778 : E_ d mL_law 1778 ls st h = E_ d mL_law 1779 ls (.int (nI 0) :: st) h := e_iconst dL_law_1778 kiconst_0 rfl
theorem wL_law_1779 (hx : x = 0 ∨ x = 1) : E_ d mL_law 1779 ls [.int x] h = some (some (.int x), h) := e_rtZ dL_law_1779 rfl hx
theorem wL_law_1780 : E_ d mL_law 1780 [s0, .val (.ref a), s2, s3] st h = E_ d mL_law 1781 [s0, .val (.ref a), s2, s3] (.ref a :: st) h := e_go dL_law_1780 rfl rfl
theorem wL_law_1781 : E_ d mL_law 1781 [.val (.ref a), s1, s2, s3] st h = E_ d mL_law 1782 [.val (.ref a), s1, s2, s3] (.ref a :: st) h := e_go dL_law_1781 rfl rfl
theorem wL_law_1782 : E_ d mL_law 1782 [s0, s1, s2, .val (.int x)] st h = E_ d mL_law 1783 [s0, s1, s2, .val (.int x)] (.int x :: st) h := e_go dL_law_1782 rfl rfl
theorem wL_law_1783 : E_ d mL_law 1783 ls st h = E_ d mL_law 1784 ls (.int (nI 1) :: st) h := e_iconst dL_law_1783 kiconst_1 rfl
theorem wL_law_1784 : E_ d mL_law 1784 ls (.int y :: .int x :: st) h = E_ d mL_law 1785 ls (.int (x + y) :: st) h := e_go dL_law_1784 rfl rfl
theorem wL_law_1785 (ht : oT h a = 39) (hi : xix x (oN h a) = true) : E_ d mL_law 1785 ls (.int x :: .ref a :: st) h = E_ d mL_law 1786 ls (.int (oI h a x.toNatClampNeg) :: st) h := e_iald9 dL_law_1785 rfl ht hi
theorem wL_law_1786 : E_ d mL_law 1786 [.val (.ref a), s1, s2, s3] st h = E_ d mL_law 1787 [.val (.ref a), s1, s2, s3] (.ref a :: st) h := e_go dL_law_1786 rfl rfl
theorem wL_law_1787 : E_ d mL_law 1787 [s0, s1, s2, .val (.int x)] st h = E_ d mL_law 1788 [s0, s1, s2, .val (.int x)] (.int x :: st) h := e_go dL_law_1787 rfl rfl
theorem wL_law_1788 : E_ d mL_law 1788 ls st h = E_ d mL_law 1789 ls (.int (nI 2) :: st) h := e_iconst dL_law_1788 kiconst_2 rfl
theorem wL_law_1789 : E_ d mL_law 1789 ls (.int y :: .int x :: st) h = E_ d mL_law 1790 ls (.int (x + y) :: st) h := e_go dL_law_1789 rfl rfl
theorem wL_law_1790 (ht : oT h a = 39) (hi : xix x (oN h a) = true) : E_ d mL_law 1790 ls (.int x :: .ref a :: st) h = E_ d mL_law 1791 ls (.int (oI h a x.toNatClampNeg) :: st) h := e_iald9 dL_law_1790 rfl ht hi
theorem wL_law_1791 : E_ d mL_law 1791 [.val (.ref a), s1, s2, s3] st h = E_ d mL_law 1792 [.val (.ref a), s1, s2, s3] (.ref a :: st) h := e_go dL_law_1791 rfl rfl
theorem wL_law_1792 : E_ d mL_law 1792 [s0, s1, s2, .val (.int x)] st h = E_ d mL_law 1793 [s0, s1, s2, .val (.int x)] (.int x :: st) h := e_go dL_law_1792 rfl rfl
theorem wL_law_1793 : E_ d mL_law 1793 ls st h = E_ d mL_law 1794 ls (.int (nI 3) :: st) h := e_iconst dL_law_1793 kiconst_3 rfl
theorem wL_law_1794 : E_ d mL_law 1794 ls (.int y :: .int x :: st) h = E_ d mL_law 1795 ls (.int (x + y) :: st) h := e_go dL_law_1794 rfl rfl
theorem wL_law_1795 (ht : oT h a = 39) (hi : xix x (oN h a) = true) : E_ d mL_law 1795 ls (.int x :: .ref a :: st) h = E_ d mL_law 1796 ls (.int (oI h a x.toNatClampNeg) :: st) h := e_iald9 dL_law_1795 rfl ht hi
theorem wL_law_1796 (ht : oT h a = 1) : E_ (d + 1) mL_law 1796 ls [.int x3, .int x2, .int x1, .ref a] h = (C_ d mX0_numbers [.ref a, .int x1, .int x2, .int x3] h).bind fun r => E_ (d + 1) mL_law 1799 ls (xpu r.1 []) r.2 := e_vir dL_law_1796 rfl rfl rfl rfl rfl rfl (Nat.le_of_ble_eq_true rfl) (Nat.le_of_ble_eq_true rfl) ht
theorem wL_law_1799 : E_ d mL_law 1799 [s0, s1, .val (.ref a), s3] st h = E_ d mL_law 1800 [s0, s1, .val (.ref a), s3] (.ref a :: st) h := e_go dL_law_1799 rfl rfl
theorem wL_law_1800 : E_ d mL_law 1800 [.val (.ref a), s1, s2, s3] st h = E_ d mL_law 1801 [.val (.ref a), s1, s2, s3] (.ref a :: st) h := e_go dL_law_1800 rfl rfl
theorem wL_law_1801 : E_ d mL_law 1801 [s0, s1, s2, .val (.int x)] st h = E_ d mL_law 1802 [s0, s1, s2, .val (.int x)] (.int x :: st) h := e_go dL_law_1801 rfl rfl
theorem wL_law_1802 : E_ d mL_law 1802 ls st h = E_ d mL_law 1803 ls (.int (nI 1) :: st) h := e_iconst dL_law_1802 kiconst_1 rfl
theorem wL_law_1803 : E_ d mL_law 1803 ls (.int y :: .int x :: st) h = E_ d mL_law 1804 ls (.int (x + y) :: st) h := e_go dL_law_1803 rfl rfl
theorem wL_law_1804 (ht : oT h a = 39) (hi : xix x (oN h a) = true) : E_ d mL_law 1804 ls (.int x :: .ref a :: st) h = E_ d mL_law 1805 ls (.int (oI h a x.toNatClampNeg) :: st) h := e_iald9 dL_law_1804 rfl ht hi
theorem wL_law_1805 : E_ d mL_law 1805 [.val (.ref a), s1, s2, s3] st h = E_ d mL_law 1806 [.val (.ref a), s1, s2, s3] (.ref a :: st) h := e_go dL_law_1805 rfl rfl
theorem wL_law_1806 : E_ d mL_law 1806 [s0, s1, s2, .val (.int x)] st h = E_ d mL_law 1807 [s0, s1, s2, .val (.int x)] (.int x :: st) h := e_go dL_law_1806 rfl rfl
theorem wL_law_1807 : E_ d mL_law 1807 ls st h = E_ d mL_law 1808 ls (.int (nI 2) :: st) h := e_iconst dL_law_1807 kiconst_2 rfl
theorem wL_law_1808 : E_ d mL_law 1808 ls (.int y :: .int x :: st) h = E_ d mL_law 1809 ls (.int (x + y) :: st) h := e_go dL_law_1808 rfl rfl
theorem wL_law_1809 (ht : oT h a = 39) (hi : xix x (oN h a) = true) : E_ d mL_law 1809 ls (.int x :: .ref a :: st) h = E_ d mL_law 1810 ls (.int (oI h a x.toNatClampNeg) :: st) h := e_iald9 dL_law_1809 rfl ht hi
theorem wL_law_1810 : E_ d mL_law 1810 [.val (.ref a), s1, s2, s3] st h = E_ d mL_law 1811 [.val (.ref a), s1, s2, s3] (.ref a :: st) h := e_go dL_law_1810 rfl rfl
theorem wL_law_1811 : E_ d mL_law 1811 [s0, s1, s2, .val (.int x)] st h = E_ d mL_law 1812 [s0, s1, s2, .val (.int x)] (.int x :: st) h := e_go dL_law_1811 rfl rfl
theorem wL_law_1812 : E_ d mL_law 1812 ls st h = E_ d mL_law 1813 ls (.int (nI 3) :: st) h := e_iconst dL_law_1812 kiconst_3 rfl
theorem wL_law_1813 : E_ d mL_law 1813 ls (.int y :: .int x :: st) h = E_ d mL_law 1814 ls (.int (x + y) :: st) h := e_go dL_law_1813 rfl rfl
theorem wL_law_1814 (ht : oT h a = 39) (hi : xix x (oN h a) = true) : E_ d mL_law 1814 ls (.int x :: .ref a :: st) h = E_ d mL_law 1815 ls (.int (oI h a x.toNatClampNeg) :: st) h := e_iald9 dL_law_1814 rfl ht hi
theorem wL_law_1815 (ht : oT h a = 7) : E_ (d + 1) mL_law 1815 ls [.int x3, .int x2, .int x1, .ref a, .int x4] h = (C_ d mX5_numbers [.ref a, .int x1, .int x2, .int x3] h).bind fun r => E_ (d + 1) mL_law 1818 ls (xpu r.1 [.int x4]) r.2 := e_vir dL_law_1815 rfl rfl rfl rfl rfl rfl (Nat.le_of_ble_eq_true rfl) (Nat.le_of_ble_eq_true rfl) ht
theorem wL_law_1818 : E_ d mL_law 1818 ls (.int y :: .int x :: st) h = if x = y then E_ d mL_law 1989 ls st h else E_ d mL_law 1821 ls st h := e_ieq dL_law_1818 rfl rfl
theorem wL_law_1821 : E_ d mL_law 1821 ls st h = E_ d mL_law 1822 ls (.int (nI 0) :: st) h := e_iconst dL_law_1821 kiconst_0 rfl
theorem wL_law_1822 (hx : x = 0 ∨ x = 1) : E_ d mL_law 1822 ls [.int x] h = some (some (.int x), h) := e_rtZ dL_law_1822 rfl hx
theorem wL_law_1823 : E_ d mL_law 1823 [s0, .val (.ref a), s2, s3] st h = E_ d mL_law 1824 [s0, .val (.ref a), s2, s3] (.ref a :: st) h := e_go dL_law_1823 rfl rfl
theorem wL_law_1824 : E_ d mL_law 1824 [.val (.ref a), s1, s2, s3] st h = E_ d mL_law 1825 [.val (.ref a), s1, s2, s3] (.ref a :: st) h := e_go dL_law_1824 rfl rfl
theorem wL_law_1825 : E_ d mL_law 1825 [s0, s1, s2, .val (.int x)] st h = E_ d mL_law 1826 [s0, s1, s2, .val (.int x)] (.int x :: st) h := e_go dL_law_1825 rfl rfl
theorem wL_law_1826 : E_ d mL_law 1826 ls st h = E_ d mL_law 1827 ls (.int (nI 1) :: st) h := e_iconst dL_law_1826 kiconst_1 rfl
theorem wL_law_1827 : E_ d mL_law 1827 ls (.int y :: .int x :: st) h = E_ d mL_law 1828 ls (.int (x + y) :: st) h := e_go dL_law_1827 rfl rfl
theorem wL_law_1828 (ht : oT h a = 39) (hi : xix x (oN h a) = true) : E_ d mL_law 1828 ls (.int x :: .ref a :: st) h = E_ d mL_law 1829 ls (.int (oI h a x.toNatClampNeg) :: st) h := e_iald9 dL_law_1828 rfl ht hi
theorem wL_law_1829 : E_ d mL_law 1829 [.val (.ref a), s1, s2, s3] st h = E_ d mL_law 1830 [.val (.ref a), s1, s2, s3] (.ref a :: st) h := e_go dL_law_1829 rfl rfl
theorem wL_law_1830 : E_ d mL_law 1830 [s0, s1, s2, .val (.int x)] st h = E_ d mL_law 1831 [s0, s1, s2, .val (.int x)] (.int x :: st) h := e_go dL_law_1830 rfl rfl
theorem wL_law_1831 : E_ d mL_law 1831 ls st h = E_ d mL_law 1832 ls (.int (nI 2) :: st) h := e_iconst dL_law_1831 kiconst_2 rfl
theorem wL_law_1832 : E_ d mL_law 1832 ls (.int y :: .int x :: st) h = E_ d mL_law 1833 ls (.int (x + y) :: st) h := e_go dL_law_1832 rfl rfl
theorem wL_law_1833 (ht : oT h a = 39) (hi : xix x (oN h a) = true) : E_ d mL_law 1833 ls (.int x :: .ref a :: st) h = E_ d mL_law 1834 ls (.int (oI h a x.toNatClampNeg) :: st) h := e_iald9 dL_law_1833 rfl ht hi
theorem wL_law_1834 : E_ d mL_law 1834 [.val (.ref a), s1, s2, s3] st h = E_ d mL_law 1835 [.val (.ref a), s1, s2, s3] (.ref a :: st) h := e_go dL_law_1834 rfl rfl
theorem wL_law_1835 : E_ d mL_law 1835 [s0, s1, s2, .val (.int x)] st h = E_ d mL_law 1836 [s0, s1, s2, .val (.int x)] (.int x :: st) h := e_go dL_law_1835 rfl rfl
theorem wL_law_1836 : E_ d mL_law 1836 ls st h = E_ d mL_law 1837 ls (.int (nI 3) :: st) h := e_iconst dL_law_1836 kiconst_3 rfl
theorem wL_law_1837 : E_ d mL_law 1837 ls (.int y :: .int x :: st) h = E_ d mL_law 1838 ls (.int (x + y) :: st) h := e_go dL_law_1837 rfl rfl
theorem wL_law_1838 (ht : oT h a = 39) (hi : xix x (oN h a) = true) : E_ d mL_law 1838 ls (.int x :: .ref a :: st) h = E_ d mL_law 1839 ls (.int (oI h a x.toNatClampNeg) :: st) h := e_iald9 dL_law_1838 rfl ht hi
theorem wL_law_1839 : E_ d mL_law 1839 ls (.int x :: st) h = E_ d mL_law 1840 ls (.long x.toInt64 :: st) h := e_go dL_law_1839 rfl rfl
theorem wL_law_1840 : E_ d mL_law 1840 ls st h = E_ d mL_law 1842 ls (.int (nI 32) :: st) h := e_bipush dL_law_1840 kbipush_32 rfl
theorem wL_law_1842 : E_ d mL_law 1842 ls (.int y :: .long u :: st) h = E_ d mL_law 1843 ls (.long (u <<< (y.toInt64 &&& 63)) :: st) h := e_go dL_law_1842 rfl rfl
theorem wL_law_1843 : E_ d mL_law 1843 [.val (.ref a), s1, s2, s3] st h = E_ d mL_law 1844 [.val (.ref a), s1, s2, s3] (.ref a :: st) h := e_go dL_law_1843 rfl rfl
theorem wL_law_1844 : E_ d mL_law 1844 [s0, s1, s2, .val (.int x)] st h = E_ d mL_law 1845 [s0, s1, s2, .val (.int x)] (.int x :: st) h := e_go dL_law_1844 rfl rfl
theorem wL_law_1845 : E_ d mL_law 1845 ls st h = E_ d mL_law 1846 ls (.int (nI 4) :: st) h := e_iconst dL_law_1845 kiconst_4 rfl
theorem wL_law_1846 : E_ d mL_law 1846 ls (.int y :: .int x :: st) h = E_ d mL_law 1847 ls (.int (x + y) :: st) h := e_go dL_law_1846 rfl rfl
theorem wL_law_1847 (ht : oT h a = 39) (hi : xix x (oN h a) = true) : E_ d mL_law 1847 ls (.int x :: .ref a :: st) h = E_ d mL_law 1848 ls (.int (oI h a x.toNatClampNeg) :: st) h := e_iald9 dL_law_1847 rfl ht hi
theorem wL_law_1848 : E_ d mL_law 1848 ls (.int x :: st) h = E_ d mL_law 1849 ls (.long x.toInt64 :: st) h := e_go dL_law_1848 rfl rfl
theorem wL_law_1849 : E_ d mL_law 1849 ls st h = E_ d mL_law 1852 ls (.long (4294967295) :: st) h := e_go dL_law_1849 rfl rfl
theorem wL_law_1852 : E_ d mL_law 1852 ls (.long v :: .long u :: st) h = E_ d mL_law 1853 ls (.long (u &&& v) :: st) h := e_go dL_law_1852 rfl rfl
theorem wL_law_1853 : E_ d mL_law 1853 ls (.long v :: .long u :: st) h = E_ d mL_law 1854 ls (.long (u ||| v) :: st) h := e_go dL_law_1853 rfl rfl
theorem wL_law_1854 (ht : oT h a = 1) : E_ d mL_law 1854 ls [.long u1, .int x2, .int x1, .ref a] h = (xP 5 [.ref a, .int x1, .int x2, .long u1] h).bind fun r => E_ d mL_law 1857 ls (xpu r.1 []) r.2 := e_virP dL_law_1854 rfl rfl rfl rfl rfl rfl (Nat.le_of_ble_eq_true rfl) ht
theorem wL_law_1857 : E_ d mL_law 1857 [s0, s1, .val (.ref a), s3] st h = E_ d mL_law 1858 [s0, s1, .val (.ref a), s3] (.ref a :: st) h := e_go dL_law_1857 rfl rfl
theorem wL_law_1858 : E_ d mL_law 1858 [.val (.ref a), s1, s2, s3] st h = E_ d mL_law 1859 [.val (.ref a), s1, s2, s3] (.ref a :: st) h := e_go dL_law_1858 rfl rfl
theorem wL_law_1859 : E_ d mL_law 1859 [s0, s1, s2, .val (.int x)] st h = E_ d mL_law 1860 [s0, s1, s2, .val (.int x)] (.int x :: st) h := e_go dL_law_1859 rfl rfl
theorem wL_law_1860 : E_ d mL_law 1860 ls st h = E_ d mL_law 1861 ls (.int (nI 1) :: st) h := e_iconst dL_law_1860 kiconst_1 rfl
theorem wL_law_1861 : E_ d mL_law 1861 ls (.int y :: .int x :: st) h = E_ d mL_law 1862 ls (.int (x + y) :: st) h := e_go dL_law_1861 rfl rfl
theorem wL_law_1862 (ht : oT h a = 39) (hi : xix x (oN h a) = true) : E_ d mL_law 1862 ls (.int x :: .ref a :: st) h = E_ d mL_law 1863 ls (.int (oI h a x.toNatClampNeg) :: st) h := e_iald9 dL_law_1862 rfl ht hi
theorem wL_law_1863 : E_ d mL_law 1863 [.val (.ref a), s1, s2, s3] st h = E_ d mL_law 1864 [.val (.ref a), s1, s2, s3] (.ref a :: st) h := e_go dL_law_1863 rfl rfl
theorem wL_law_1864 : E_ d mL_law 1864 [s0, s1, s2, .val (.int x)] st h = E_ d mL_law 1865 [s0, s1, s2, .val (.int x)] (.int x :: st) h := e_go dL_law_1864 rfl rfl
theorem wL_law_1865 : E_ d mL_law 1865 ls st h = E_ d mL_law 1866 ls (.int (nI 2) :: st) h := e_iconst dL_law_1865 kiconst_2 rfl
theorem wL_law_1866 : E_ d mL_law 1866 ls (.int y :: .int x :: st) h = E_ d mL_law 1867 ls (.int (x + y) :: st) h := e_go dL_law_1866 rfl rfl
theorem wL_law_1867 (ht : oT h a = 39) (hi : xix x (oN h a) = true) : E_ d mL_law 1867 ls (.int x :: .ref a :: st) h = E_ d mL_law 1868 ls (.int (oI h a x.toNatClampNeg) :: st) h := e_iald9 dL_law_1867 rfl ht hi
theorem wL_law_1868 : E_ d mL_law 1868 [.val (.ref a), s1, s2, s3] st h = E_ d mL_law 1869 [.val (.ref a), s1, s2, s3] (.ref a :: st) h := e_go dL_law_1868 rfl rfl
theorem wL_law_1869 : E_ d mL_law 1869 [s0, s1, s2, .val (.int x)] st h = E_ d mL_law 1870 [s0, s1, s2, .val (.int x)] (.int x :: st) h := e_go dL_law_1869 rfl rfl
theorem wL_law_1870 : E_ d mL_law 1870 ls st h = E_ d mL_law 1871 ls (.int (nI 3) :: st) h := e_iconst dL_law_1870 kiconst_3 rfl
theorem wL_law_1871 : E_ d mL_law 1871 ls (.int y :: .int x :: st) h = E_ d mL_law 1872 ls (.int (x + y) :: st) h := e_go dL_law_1871 rfl rfl
theorem wL_law_1872 (ht : oT h a = 39) (hi : xix x (oN h a) = true) : E_ d mL_law 1872 ls (.int x :: .ref a :: st) h = E_ d mL_law 1873 ls (.int (oI h a x.toNatClampNeg) :: st) h := e_iald9 dL_law_1872 rfl ht hi
theorem wL_law_1873 : E_ d mL_law 1873 ls (.int x :: st) h = E_ d mL_law 1874 ls (.long x.toInt64 :: st) h := e_go dL_law_1873 rfl rfl
theorem wL_law_1874 : E_ d mL_law 1874 ls st h = E_ d mL_law 1876 ls (.int (nI 32) :: st) h := e_bipush dL_law_1874 kbipush_32 rfl
theorem wL_law_1876 : E_ d mL_law 1876 ls (.int y :: .long u :: st) h = E_ d mL_law 1877 ls (.long (u <<< (y.toInt64 &&& 63)) :: st) h := e_go dL_law_1876 rfl rfl
theorem wL_law_1877 : E_ d mL_law 1877 [.val (.ref a), s1, s2, s3] st h = E_ d mL_law 1878 [.val (.ref a), s1, s2, s3] (.ref a :: st) h := e_go dL_law_1877 rfl rfl
theorem wL_law_1878 : E_ d mL_law 1878 [s0, s1, s2, .val (.int x)] st h = E_ d mL_law 1879 [s0, s1, s2, .val (.int x)] (.int x :: st) h := e_go dL_law_1878 rfl rfl
theorem wL_law_1879 : E_ d mL_law 1879 ls st h = E_ d mL_law 1880 ls (.int (nI 4) :: st) h := e_iconst dL_law_1879 kiconst_4 rfl
theorem wL_law_1880 : E_ d mL_law 1880 ls (.int y :: .int x :: st) h = E_ d mL_law 1881 ls (.int (x + y) :: st) h := e_go dL_law_1880 rfl rfl
theorem wL_law_1881 (ht : oT h a = 39) (hi : xix x (oN h a) = true) : E_ d mL_law 1881 ls (.int x :: .ref a :: st) h = E_ d mL_law 1882 ls (.int (oI h a x.toNatClampNeg) :: st) h := e_iald9 dL_law_1881 rfl ht hi
theorem wL_law_1882 : E_ d mL_law 1882 ls (.int x :: st) h = E_ d mL_law 1883 ls (.long x.toInt64 :: st) h := e_go dL_law_1882 rfl rfl
theorem wL_law_1883 : E_ d mL_law 1883 ls st h = E_ d mL_law 1886 ls (.long (4294967295) :: st) h := e_go dL_law_1883 rfl rfl
theorem wL_law_1886 : E_ d mL_law 1886 ls (.long v :: .long u :: st) h = E_ d mL_law 1887 ls (.long (u &&& v) :: st) h := e_go dL_law_1886 rfl rfl
theorem wL_law_1887 : E_ d mL_law 1887 ls (.long v :: .long u :: st) h = E_ d mL_law 1888 ls (.long (u ||| v) :: st) h := e_go dL_law_1887 rfl rfl
theorem wL_law_1888 (ht : oT h a = 7) : E_ (d + 1) mL_law 1888 ls [.long u1, .int x2, .int x1, .ref a, .long u2] h = (C_ d mX5_write [.ref a, .int x1, .int x2, .long u1] h).bind fun r => E_ (d + 1) mL_law 1891 ls (xpu r.1 [.long u2]) r.2 := e_vir dL_law_1888 rfl rfl rfl rfl rfl rfl (Nat.le_of_ble_eq_true rfl) (Nat.le_of_ble_eq_true rfl) ht
theorem wL_law_1891 : E_ d mL_law 1891 ls (.long v :: .long u :: st) h = E_ d mL_law 1892 ls (.int (lg_cmp u v) :: st) h := e_go dL_law_1891 rfl rfl
theorem wL_law_1892 : E_ d mL_law 1892 ls (.int x :: st) h = if x = 0 then E_ d mL_law 1989 ls st h else E_ d mL_law 1895 ls st h := e_zeq dL_law_1892 rfl rfl
theorem wL_law_1895 : E_ d mL_law 1895 ls st h = E_ d mL_law 1896 ls (.int (nI 0) :: st) h := e_iconst dL_law_1895 kiconst_0 rfl
theorem wL_law_1896 (hx : x = 0 ∨ x = 1) : E_ d mL_law 1896 ls [.int x] h = some (some (.int x), h) := e_rtZ dL_law_1896 rfl hx
theorem wL_law_1897 : E_ d mL_law 1897 [s0, .val (.ref a), s2, s3] st h = E_ d mL_law 1898 [s0, .val (.ref a), s2, s3] (.ref a :: st) h := e_go dL_law_1897 rfl rfl
theorem wL_law_1898 : E_ d mL_law 1898 [.val (.ref a), s1, s2, s3] st h = E_ d mL_law 1899 [.val (.ref a), s1, s2, s3] (.ref a :: st) h := e_go dL_law_1898 rfl rfl
theorem wL_law_1899 : E_ d mL_law 1899 [s0, s1, s2, .val (.int x)] st h = E_ d mL_law 1900 [s0, s1, s2, .val (.int x)] (.int x :: st) h := e_go dL_law_1899 rfl rfl
theorem wL_law_1900 : E_ d mL_law 1900 ls st h = E_ d mL_law 1901 ls (.int (nI 1) :: st) h := e_iconst dL_law_1900 kiconst_1 rfl
theorem wL_law_1901 : E_ d mL_law 1901 ls (.int y :: .int x :: st) h = E_ d mL_law 1902 ls (.int (x + y) :: st) h := e_go dL_law_1901 rfl rfl
theorem wL_law_1902 (ht : oT h a = 39) (hi : xix x (oN h a) = true) : E_ d mL_law 1902 ls (.int x :: .ref a :: st) h = E_ d mL_law 1903 ls (.int (oI h a x.toNatClampNeg) :: st) h := e_iald9 dL_law_1902 rfl ht hi
theorem wL_law_1903 (ht : oT h a = 1) : E_ (d + 1) mL_law 1903 ls [.int x1, .ref a] h = (C_ d mX0_image [.ref a, .int x1] h).bind fun r => E_ (d + 1) mL_law 1906 ls (xpu r.1 []) r.2 := e_vir dL_law_1903 rfl rfl rfl rfl rfl rfl (Nat.le_of_ble_eq_true rfl) (Nat.le_of_ble_eq_true rfl) ht
theorem wL_law_1906 : E_ d mL_law 1906 [s0, s1, .val (.ref a), s3] st h = E_ d mL_law 1907 [s0, s1, .val (.ref a), s3] (.ref a :: st) h := e_go dL_law_1906 rfl rfl
theorem wL_law_1907 : E_ d mL_law 1907 [.val (.ref a), s1, s2, s3] st h = E_ d mL_law 1908 [.val (.ref a), s1, s2, s3] (.ref a :: st) h := e_go dL_law_1907 rfl rfl
theorem wL_law_1908 : E_ d mL_law 1908 [s0, s1, s2, .val (.int x)] st h = E_ d mL_law 1909 [s0, s1, s2, .val (.int x)] (.int x :: st) h := e_go dL_law_1908 rfl rfl
theorem wL_law_1909 : E_ d mL_law 1909 ls st h = E_ d mL_law 1910 ls (.int (nI 1) :: st) h := e_iconst dL_law_1909 kiconst_1 rfl
theorem wL_law_1910 : E_ d mL_law 1910 ls (.int y :: .int x :: st) h = E_ d mL_law 1911 ls (.int (x + y) :: st) h := e_go dL_law_1910 rfl rfl
theorem wL_law_1911 (ht : oT h a = 39) (hi : xix x (oN h a) = true) : E_ d mL_law 1911 ls (.int x :: .ref a :: st) h = E_ d mL_law 1912 ls (.int (oI h a x.toNatClampNeg) :: st) h := e_iald9 dL_law_1911 rfl ht hi
theorem wL_law_1912 (ht : oT h a = 7) : E_ (d + 1) mL_law 1912 ls [.int x1, .ref a, .int x2] h = (C_ d mX5_image [.ref a, .int x1] h).bind fun r => E_ (d + 1) mL_law 1915 ls (xpu r.1 [.int x2]) r.2 := e_vir dL_law_1912 rfl rfl rfl rfl rfl rfl (Nat.le_of_ble_eq_true rfl) (Nat.le_of_ble_eq_true rfl) ht
theorem wL_law_1915 : E_ d mL_law 1915 ls (.int y :: .int x :: st) h = if x = y then E_ d mL_law 1989 ls st h else E_ d mL_law 1918 ls st h := e_ieq dL_law_1915 rfl rfl
theorem wL_law_1918 : E_ d mL_law 1918 ls st h = E_ d mL_law 1919 ls (.int (nI 0) :: st) h := e_iconst dL_law_1918 kiconst_0 rfl
theorem wL_law_1919 (hx : x = 0 ∨ x = 1) : E_ d mL_law 1919 ls [.int x] h = some (some (.int x), h) := e_rtZ dL_law_1919 rfl hx
theorem wL_law_1920 : E_ d mL_law 1920 [s0, .val (.ref a), s2, s3] st h = E_ d mL_law 1921 [s0, .val (.ref a), s2, s3] (.ref a :: st) h := e_go dL_law_1920 rfl rfl
theorem wL_law_1921 : E_ d mL_law 1921 [.val (.ref a), s1, s2, s3] st h = E_ d mL_law 1922 [.val (.ref a), s1, s2, s3] (.ref a :: st) h := e_go dL_law_1921 rfl rfl
theorem wL_law_1922 : E_ d mL_law 1922 [s0, s1, s2, .val (.int x)] st h = E_ d mL_law 1923 [s0, s1, s2, .val (.int x)] (.int x :: st) h := e_go dL_law_1922 rfl rfl
theorem wL_law_1923 : E_ d mL_law 1923 ls st h = E_ d mL_law 1924 ls (.int (nI 1) :: st) h := e_iconst dL_law_1923 kiconst_1 rfl
theorem wL_law_1924 : E_ d mL_law 1924 ls (.int y :: .int x :: st) h = E_ d mL_law 1925 ls (.int (x + y) :: st) h := e_go dL_law_1924 rfl rfl
theorem wL_law_1925 (ht : oT h a = 39) (hi : xix x (oN h a) = true) : E_ d mL_law 1925 ls (.int x :: .ref a :: st) h = E_ d mL_law 1926 ls (.int (oI h a x.toNatClampNeg) :: st) h := e_iald9 dL_law_1925 rfl ht hi
theorem wL_law_1926 (ht : oT h a = 1) : E_ (d + 1) mL_law 1926 ls [.int x1, .ref a] h = (C_ d mX0_restore [.ref a, .int x1] h).bind fun r => E_ (d + 1) mL_law 1929 ls (xpu r.1 []) r.2 := e_vir dL_law_1926 rfl rfl rfl rfl rfl rfl (Nat.le_of_ble_eq_true rfl) (Nat.le_of_ble_eq_true rfl) ht
theorem wL_law_1929 : E_ d mL_law 1929 [s0, s1, .val (.ref a), s3] st h = E_ d mL_law 1930 [s0, s1, .val (.ref a), s3] (.ref a :: st) h := e_go dL_law_1929 rfl rfl
theorem wL_law_1930 : E_ d mL_law 1930 [.val (.ref a), s1, s2, s3] st h = E_ d mL_law 1931 [.val (.ref a), s1, s2, s3] (.ref a :: st) h := e_go dL_law_1930 rfl rfl
theorem wL_law_1931 : E_ d mL_law 1931 [s0, s1, s2, .val (.int x)] st h = E_ d mL_law 1932 [s0, s1, s2, .val (.int x)] (.int x :: st) h := e_go dL_law_1931 rfl rfl
theorem wL_law_1932 : E_ d mL_law 1932 ls st h = E_ d mL_law 1933 ls (.int (nI 1) :: st) h := e_iconst dL_law_1932 kiconst_1 rfl
theorem wL_law_1933 : E_ d mL_law 1933 ls (.int y :: .int x :: st) h = E_ d mL_law 1934 ls (.int (x + y) :: st) h := e_go dL_law_1933 rfl rfl
theorem wL_law_1934 (ht : oT h a = 39) (hi : xix x (oN h a) = true) : E_ d mL_law 1934 ls (.int x :: .ref a :: st) h = E_ d mL_law 1935 ls (.int (oI h a x.toNatClampNeg) :: st) h := e_iald9 dL_law_1934 rfl ht hi
theorem wL_law_1935 (ht : oT h a = 7) : E_ (d + 1) mL_law 1935 ls [.int x1, .ref a, .int x2] h = (C_ d mX5_restore [.ref a, .int x1] h).bind fun r => E_ (d + 1) mL_law 1938 ls (xpu r.1 [.int x2]) r.2 := e_vir dL_law_1935 rfl rfl rfl rfl rfl rfl (Nat.le_of_ble_eq_true rfl) (Nat.le_of_ble_eq_true rfl) ht
theorem wL_law_1938 : E_ d mL_law 1938 ls (.int y :: .int x :: st) h = if x = y then E_ d mL_law 1989 ls st h else E_ d mL_law 1941 ls st h := e_ieq dL_law_1938 rfl rfl
theorem wL_law_1941 : E_ d mL_law 1941 ls st h = E_ d mL_law 1942 ls (.int (nI 0) :: st) h := e_iconst dL_law_1941 kiconst_0 rfl
theorem wL_law_1942 (hx : x = 0 ∨ x = 1) : E_ d mL_law 1942 ls [.int x] h = some (some (.int x), h) := e_rtZ dL_law_1942 rfl hx
theorem wL_law_1943 : E_ d mL_law 1943 [s0, .val (.ref a), s2, s3] st h = E_ d mL_law 1944 [s0, .val (.ref a), s2, s3] (.ref a :: st) h := e_go dL_law_1943 rfl rfl
theorem wL_law_1944 : E_ d mL_law 1944 [.val (.ref a), s1, s2, s3] st h = E_ d mL_law 1945 [.val (.ref a), s1, s2, s3] (.ref a :: st) h := e_go dL_law_1944 rfl rfl
theorem wL_law_1945 : E_ d mL_law 1945 [s0, s1, s2, .val (.int x)] st h = E_ d mL_law 1946 [s0, s1, s2, .val (.int x)] (.int x :: st) h := e_go dL_law_1945 rfl rfl
theorem wL_law_1946 : E_ d mL_law 1946 ls st h = E_ d mL_law 1947 ls (.int (nI 1) :: st) h := e_iconst dL_law_1946 kiconst_1 rfl
theorem wL_law_1947 : E_ d mL_law 1947 ls (.int y :: .int x :: st) h = E_ d mL_law 1948 ls (.int (x + y) :: st) h := e_go dL_law_1947 rfl rfl
theorem wL_law_1948 (ht : oT h a = 39) (hi : xix x (oN h a) = true) : E_ d mL_law 1948 ls (.int x :: .ref a :: st) h = E_ d mL_law 1949 ls (.int (oI h a x.toNatClampNeg) :: st) h := e_iald9 dL_law_1948 rfl ht hi
theorem wL_law_1949 (ht : oT h a = 1) : E_ (d + 1) mL_law 1949 ls [.int x1, .ref a] h = (C_ d mX0_status [.ref a, .int x1] h).bind fun r => E_ (d + 1) mL_law 1952 ls (xpu r.1 []) r.2 := e_vir dL_law_1949 rfl rfl rfl rfl rfl rfl (Nat.le_of_ble_eq_true rfl) (Nat.le_of_ble_eq_true rfl) ht
theorem wL_law_1952 : E_ d mL_law 1952 [s0, s1, .val (.ref a), s3] st h = E_ d mL_law 1953 [s0, s1, .val (.ref a), s3] (.ref a :: st) h := e_go dL_law_1952 rfl rfl
theorem wL_law_1953 : E_ d mL_law 1953 [.val (.ref a), s1, s2, s3] st h = E_ d mL_law 1954 [.val (.ref a), s1, s2, s3] (.ref a :: st) h := e_go dL_law_1953 rfl rfl
theorem wL_law_1954 : E_ d mL_law 1954 [s0, s1, s2, .val (.int x)] st h = E_ d mL_law 1955 [s0, s1, s2, .val (.int x)] (.int x :: st) h := e_go dL_law_1954 rfl rfl
theorem wL_law_1955 : E_ d mL_law 1955 ls st h = E_ d mL_law 1956 ls (.int (nI 1) :: st) h := e_iconst dL_law_1955 kiconst_1 rfl
theorem wL_law_1956 : E_ d mL_law 1956 ls (.int y :: .int x :: st) h = E_ d mL_law 1957 ls (.int (x + y) :: st) h := e_go dL_law_1956 rfl rfl
theorem wL_law_1957 (ht : oT h a = 39) (hi : xix x (oN h a) = true) : E_ d mL_law 1957 ls (.int x :: .ref a :: st) h = E_ d mL_law 1958 ls (.int (oI h a x.toNatClampNeg) :: st) h := e_iald9 dL_law_1957 rfl ht hi
theorem wL_law_1958 (ht : oT h a = 7) : E_ (d + 1) mL_law 1958 ls [.int x1, .ref a, .int x2] h = (C_ d mX5_status [.ref a, .int x1] h).bind fun r => E_ (d + 1) mL_law 1961 ls (xpu r.1 [.int x2]) r.2 := e_vir dL_law_1958 rfl rfl rfl rfl rfl rfl (Nat.le_of_ble_eq_true rfl) (Nat.le_of_ble_eq_true rfl) ht
theorem wL_law_1961 : E_ d mL_law 1961 ls (.int y :: .int x :: st) h = if x = y then E_ d mL_law 1989 ls st h else E_ d mL_law 1964 ls st h := e_ieq dL_law_1961 rfl rfl
theorem wL_law_1964 : E_ d mL_law 1964 ls st h = E_ d mL_law 1965 ls (.int (nI 0) :: st) h := e_iconst dL_law_1964 kiconst_0 rfl
theorem wL_law_1965 (hx : x = 0 ∨ x = 1) : E_ d mL_law 1965 ls [.int x] h = some (some (.int x), h) := e_rtZ dL_law_1965 rfl hx
theorem wL_law_1966 : E_ d mL_law 1966 [s0, .val (.ref a), s2, s3] st h = E_ d mL_law 1967 [s0, .val (.ref a), s2, s3] (.ref a :: st) h := e_go dL_law_1966 rfl rfl
theorem wL_law_1967 : E_ d mL_law 1967 [.val (.ref a), s1, s2, s3] st h = E_ d mL_law 1968 [.val (.ref a), s1, s2, s3] (.ref a :: st) h := e_go dL_law_1967 rfl rfl
theorem wL_law_1968 : E_ d mL_law 1968 [s0, s1, s2, .val (.int x)] st h = E_ d mL_law 1969 [s0, s1, s2, .val (.int x)] (.int x :: st) h := e_go dL_law_1968 rfl rfl
theorem wL_law_1969 : E_ d mL_law 1969 ls st h = E_ d mL_law 1970 ls (.int (nI 1) :: st) h := e_iconst dL_law_1969 kiconst_1 rfl
theorem wL_law_1970 : E_ d mL_law 1970 ls (.int y :: .int x :: st) h = E_ d mL_law 1971 ls (.int (x + y) :: st) h := e_go dL_law_1970 rfl rfl
theorem wL_law_1971 (ht : oT h a = 39) (hi : xix x (oN h a) = true) : E_ d mL_law 1971 ls (.int x :: .ref a :: st) h = E_ d mL_law 1972 ls (.int (oI h a x.toNatClampNeg) :: st) h := e_iald9 dL_law_1971 rfl ht hi
theorem wL_law_1972 (ht : oT h a = 1) : E_ (d + 1) mL_law 1972 ls [.int x1, .ref a] h = (C_ d mX0_count [.ref a, .int x1] h).bind fun r => E_ (d + 1) mL_law 1975 ls (xpu r.1 []) r.2 := e_vir dL_law_1972 rfl rfl rfl rfl rfl rfl (Nat.le_of_ble_eq_true rfl) (Nat.le_of_ble_eq_true rfl) ht
theorem wL_law_1975 : E_ d mL_law 1975 [s0, s1, .val (.ref a), s3] st h = E_ d mL_law 1976 [s0, s1, .val (.ref a), s3] (.ref a :: st) h := e_go dL_law_1975 rfl rfl
theorem wL_law_1976 : E_ d mL_law 1976 [.val (.ref a), s1, s2, s3] st h = E_ d mL_law 1977 [.val (.ref a), s1, s2, s3] (.ref a :: st) h := e_go dL_law_1976 rfl rfl
theorem wL_law_1977 : E_ d mL_law 1977 [s0, s1, s2, .val (.int x)] st h = E_ d mL_law 1978 [s0, s1, s2, .val (.int x)] (.int x :: st) h := e_go dL_law_1977 rfl rfl
theorem wL_law_1978 : E_ d mL_law 1978 ls st h = E_ d mL_law 1979 ls (.int (nI 1) :: st) h := e_iconst dL_law_1978 kiconst_1 rfl
theorem wL_law_1979 : E_ d mL_law 1979 ls (.int y :: .int x :: st) h = E_ d mL_law 1980 ls (.int (x + y) :: st) h := e_go dL_law_1979 rfl rfl
theorem wL_law_1980 (ht : oT h a = 39) (hi : xix x (oN h a) = true) : E_ d mL_law 1980 ls (.int x :: .ref a :: st) h = E_ d mL_law 1981 ls (.int (oI h a x.toNatClampNeg) :: st) h := e_iald9 dL_law_1980 rfl ht hi
theorem wL_law_1981 (ht : oT h a = 7) : E_ (d + 1) mL_law 1981 ls [.int x1, .ref a, .int x2] h = (C_ d mX5_count [.ref a, .int x1] h).bind fun r => E_ (d + 1) mL_law 1984 ls (xpu r.1 [.int x2]) r.2 := e_vir dL_law_1981 rfl rfl rfl rfl rfl rfl (Nat.le_of_ble_eq_true rfl) (Nat.le_of_ble_eq_true rfl) ht
theorem wL_law_1984 : E_ d mL_law 1984 ls (.int y :: .int x :: st) h = if x = y then E_ d mL_law 1989 ls st h else E_ d mL_law 1987 ls st h := e_ieq dL_law_1984 rfl rfl
theorem wL_law_1987 : E_ d mL_law 1987 ls st h = E_ d mL_law 1988 ls (.int (nI 0) :: st) h := e_iconst dL_law_1987 kiconst_0 rfl
theorem wL_law_1988 (hx : x = 0 ∨ x = 1) : E_ d mL_law 1988 ls [.int x] h = some (some (.int x), h) := e_rtZ dL_law_1988 rfl hx
theorem wL_law_1989 : E_ d mL_law 1989 [s0, s1, s2, .val (.int x)] st h = E_ d mL_law 1992 [s0, s1, xk s2, .val (.int (x + nI 6))] st h := by rw [← kiinc_6]; exact e_go dL_law_1989 rfl rfl
theorem wL_law_1992 : E_ d mL_law 1992 ls st h = E_ d mL_law 18 ls st h := e_gt dL_law_1992 rfl
theorem wL_law_1995 : E_ d mL_law 1995 ls st h = E_ d mL_law 1996 ls (.int (nI 1) :: st) h := e_iconst dL_law_1995 kiconst_1 rfl
theorem wL_law_1996 (hx : x = 0 ∨ x = 1) : E_ d mL_law 1996 ls [.int x] h = some (some (.int x), h) := e_rtZ dL_law_1996 rfl hx
