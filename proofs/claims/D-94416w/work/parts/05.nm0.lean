/-! FootOut -/
set_option maxRecDepth 100000
def RX0 : String := "FootOut"
def TX0 : u_T := fun k => match k with
  | 0 => ("FootOut", "s", "LFootOut$State;", false)
  | 1 => ("FootOut", "images", "[LFootOut$State;", true)
  | 2 => ("FootOut", "refused", "[I", true)
  | 3 => ("FootOut", "tape", "[B", true)
  | 4 => ("FootOut", "taped", "I", false)
  | 5 => ("FootOut", "faultKind", "I", false)
  | 6 => ("FootOut", "faultPlace", "I", false)
  | 7 => ("FootOut", "walk", "LFootOut$Walk;", true)
  | 8 => ("FootOut", "x", "I", false)
  | 9 => ("FootOut", "fork", "[LFootOut$Walk;", true)
  | 10 => ("FootOut", "parts", "[J", true)
  | 11 => ("FootOut", "blamed", "[J", true)
  | 12 => ("FootOut", "stopping", "[J", true)
  | 13 => ("FootOut", "cheapest", "[J", true)
  | 14 => ("FootOut", "goesAt", "[I", true)
  | 15 => ("FootOut", "slipSum", "J", false)
  | 16 => ("FootOut", "slipMany", "I", false)
  | _ => ("FootOut", "rows", "[LFootOut$Numbers;", true)
def tyX0 : Nat → FieldType := fun k => match k with
  | 0 => .object "FootOut$State"
  | 1 => .array (.object "FootOut$State")
  | 2 => .array .int
  | 3 => .array .byte
  | 4 => .int
  | 5 => .int
  | 6 => .int
  | 7 => .object "FootOut$Walk"
  | 8 => .int
  | 9 => .array (.object "FootOut$Walk")
  | 10 => .array .long
  | 11 => .array .long
  | 12 => .array .long
  | 13 => .array .long
  | 14 => .array .int
  | 15 => .long
  | 16 => .int
  | _ => .array (.object "FootOut$Numbers")
abbrev wsX00 : List Cond := u_ws RX0 TX0 18
set_option maxRecDepth 100000 in
theorem nmX0 : ∀ a, a < 18 → ∀ b, b < 18 → a ≠ b → (TX0 a).2.1 ≠ (TX0 b).2.1 := by decide +kernel
set_option maxRecDepth 100000 in
theorem tyX0_ok : ∀ k, k < 18 → parseFieldDescriptor (TX0 k).2.2.1 = some (tyX0 k) := by decide +kernel
abbrev cX0_init : ByteArray := prog_1_method_3_code
def yX0_init : MethodName := ⟨RX0, "<init>", "()V"⟩
def dkwX0_init_6 : List UInt8 := [89, 6, 187, 0, 63, 89, 183, 0, 65, 83, 181, 0, 66, 177]
abbrev dktX0_init_6 : List UInt8 := dkwX0_init_6 ++ []
def dkwX0_init_5 : List UInt8 := [183, 0, 65, 83, 89, 4, 187, 0, 63, 89, 183, 0, 65, 83, 89, 5, 187, 0, 63, 89, 183, 0, 65, 83]
abbrev dktX0_init_5 : List UInt8 := dkwX0_init_5 ++ dktX0_init_6
def dkwX0_init_4 : List UInt8 := [188, 11, 181, 0, 57, 42, 16, 40, 188, 10, 181, 0, 60, 42, 7, 189, 0, 63, 89, 3, 187, 0, 63, 89]
abbrev dktX0_init_4 : List UInt8 := dkwX0_init_4 ++ dktX0_init_5
def dkwX0_init_3 : List UInt8 := [181, 0, 47, 42, 16, 8, 188, 11, 181, 0, 51, 42, 16, 8, 188, 11, 181, 0, 54, 42, 17, 50, 200]
abbrev dktX0_init_3 : List UInt8 := dkwX0_init_3 ++ dktX0_init_4
def dkwX0_init_2 : List UInt8 := [187, 0, 32, 89, 183, 0, 34, 181, 0, 35, 42, 184, 0, 39, 181, 0, 43, 42, 16, 6, 188, 11]
abbrev dktX0_init_2 : List UInt8 := dkwX0_init_2 ++ dktX0_init_3
def dkwX0_init_1 : List UInt8 := [16, 6, 188, 10, 181, 0, 20, 42, 17, 1, 144, 188, 8, 181, 0, 24, 42, 2, 181, 0, 28, 42]
abbrev dktX0_init_1 : List UInt8 := dkwX0_init_1 ++ dktX0_init_2
def dkwX0_init_0 : List UInt8 := [42, 183, 0, 1, 42, 187, 0, 7, 89, 183, 0, 9, 181, 0, 10, 42, 5, 189, 0, 7, 181, 0, 16, 42]
abbrev dktX0_init_0 : List UInt8 := dkwX0_init_0 ++ dktX0_init_1
theorem dksX0_init_0 : cX0_init.data.toList.drop 0 = dktX0_init_0 := by decide +kernel
theorem dksX0_init_1 : cX0_init.data.toList.drop 24 = dktX0_init_1 := dk_seg dksX0_init_0 24 rfl rfl
theorem dksX0_init_2 : cX0_init.data.toList.drop 46 = dktX0_init_2 := dk_seg dksX0_init_1 22 rfl rfl
theorem dksX0_init_3 : cX0_init.data.toList.drop 68 = dktX0_init_3 := dk_seg dksX0_init_2 22 rfl rfl
theorem dksX0_init_4 : cX0_init.data.toList.drop 91 = dktX0_init_4 := dk_seg dksX0_init_3 23 rfl rfl
theorem dksX0_init_5 : cX0_init.data.toList.drop 115 = dktX0_init_5 := dk_seg dksX0_init_4 24 rfl rfl
theorem dksX0_init_6 : cX0_init.data.toList.drop 139 = dktX0_init_6 := dk_seg dksX0_init_5 24 rfl rfl
theorem dX0_init_0 : decode cX0_init 0 = .ok (.aload_n 0, 1) := dk_42 (dk_at dksX0_init_0 0 rfl rfl)
theorem dX0_init_1 : decode cX0_init 1 = .ok (.invokespecial 1, 3) := dk_183 0 1 (dk_at dksX0_init_0 1 rfl rfl)
theorem dX0_init_4 : decode cX0_init 4 = .ok (.aload_n 0, 1) := dk_42 (dk_at dksX0_init_0 4 rfl rfl)
theorem dX0_init_5 : decode cX0_init 5 = .ok (.new 7, 3) := dk_187 0 7 (dk_at dksX0_init_0 5 rfl rfl)
theorem dX0_init_8 : decode cX0_init 8 = .ok (.dup, 1) := dk_89 (dk_at dksX0_init_0 8 rfl rfl)
theorem dX0_init_9 : decode cX0_init 9 = .ok (.invokespecial 9, 3) := dk_183 0 9 (dk_at dksX0_init_0 9 rfl rfl)
theorem dX0_init_12 : decode cX0_init 12 = .ok (.putfield 10, 3) := dk_181 0 10 (dk_at dksX0_init_0 12 rfl rfl)
theorem dX0_init_15 : decode cX0_init 15 = .ok (.aload_n 0, 1) := dk_42 (dk_at dksX0_init_0 15 rfl rfl)
theorem dX0_init_16 : decode cX0_init 16 = .ok (.iconst 2, 1) := dk_5 (dk_at dksX0_init_0 16 rfl rfl)
theorem dX0_init_17 : decode cX0_init 17 = .ok (.anewarray 7, 3) := dk_189 0 7 (dk_at dksX0_init_0 17 rfl rfl)
theorem dX0_init_20 : decode cX0_init 20 = .ok (.putfield 16, 3) := dk_181 0 16 (dk_at dksX0_init_0 20 rfl rfl)
theorem dX0_init_23 : decode cX0_init 23 = .ok (.aload_n 0, 1) := dk_42 (dk_at dksX0_init_0 23 rfl rfl)
theorem dX0_init_24 : decode cX0_init 24 = .ok (.bipush 6, 2) := dk_16 6 (dk_at dksX0_init_1 0 rfl rfl)
theorem dX0_init_26 : decode cX0_init 26 = .ok (.newarray .int, 2) := dk_188_10 (dk_at dksX0_init_1 2 rfl rfl)
theorem dX0_init_28 : decode cX0_init 28 = .ok (.putfield 20, 3) := dk_181 0 20 (dk_at dksX0_init_1 4 rfl rfl)
theorem dX0_init_31 : decode cX0_init 31 = .ok (.aload_n 0, 1) := dk_42 (dk_at dksX0_init_1 7 rfl rfl)
theorem dX0_init_32 : decode cX0_init 32 = .ok (.sipush 400, 3) := dk_17 1 144 (dk_at dksX0_init_1 8 rfl rfl)
theorem dX0_init_35 : decode cX0_init 35 = .ok (.newarray .byte, 2) := dk_188_8 (dk_at dksX0_init_1 11 rfl rfl)
theorem dX0_init_37 : decode cX0_init 37 = .ok (.putfield 24, 3) := dk_181 0 24 (dk_at dksX0_init_1 13 rfl rfl)
theorem dX0_init_40 : decode cX0_init 40 = .ok (.aload_n 0, 1) := dk_42 (dk_at dksX0_init_1 16 rfl rfl)
theorem dX0_init_41 : decode cX0_init 41 = .ok (.iconst (-1), 1) := dk_2 (dk_at dksX0_init_1 17 rfl rfl)
theorem dX0_init_42 : decode cX0_init 42 = .ok (.putfield 28, 3) := dk_181 0 28 (dk_at dksX0_init_1 18 rfl rfl)
theorem dX0_init_45 : decode cX0_init 45 = .ok (.aload_n 0, 1) := dk_42 (dk_at dksX0_init_1 21 rfl rfl)
theorem dX0_init_46 : decode cX0_init 46 = .ok (.new 32, 3) := dk_187 0 32 (dk_at dksX0_init_2 0 rfl rfl)
theorem dX0_init_49 : decode cX0_init 49 = .ok (.dup, 1) := dk_89 (dk_at dksX0_init_2 3 rfl rfl)
theorem dX0_init_50 : decode cX0_init 50 = .ok (.invokespecial 34, 3) := dk_183 0 34 (dk_at dksX0_init_2 4 rfl rfl)
theorem dX0_init_53 : decode cX0_init 53 = .ok (.putfield 35, 3) := dk_181 0 35 (dk_at dksX0_init_2 7 rfl rfl)
theorem dX0_init_56 : decode cX0_init 56 = .ok (.aload_n 0, 1) := dk_42 (dk_at dksX0_init_2 10 rfl rfl)
theorem dX0_init_57 : decode cX0_init 57 = .ok (.invokestatic 39, 3) := dk_184 0 39 (dk_at dksX0_init_2 11 rfl rfl)
theorem dX0_init_60 : decode cX0_init 60 = .ok (.putfield 43, 3) := dk_181 0 43 (dk_at dksX0_init_2 14 rfl rfl)
theorem dX0_init_63 : decode cX0_init 63 = .ok (.aload_n 0, 1) := dk_42 (dk_at dksX0_init_2 17 rfl rfl)
theorem dX0_init_64 : decode cX0_init 64 = .ok (.bipush 6, 2) := dk_16 6 (dk_at dksX0_init_2 18 rfl rfl)
theorem dX0_init_66 : decode cX0_init 66 = .ok (.newarray .long, 2) := dk_188_11 (dk_at dksX0_init_2 20 rfl rfl)
theorem dX0_init_68 : decode cX0_init 68 = .ok (.putfield 47, 3) := dk_181 0 47 (dk_at dksX0_init_3 0 rfl rfl)
theorem dX0_init_71 : decode cX0_init 71 = .ok (.aload_n 0, 1) := dk_42 (dk_at dksX0_init_3 3 rfl rfl)
theorem dX0_init_72 : decode cX0_init 72 = .ok (.bipush 8, 2) := dk_16 8 (dk_at dksX0_init_3 4 rfl rfl)
theorem dX0_init_74 : decode cX0_init 74 = .ok (.newarray .long, 2) := dk_188_11 (dk_at dksX0_init_3 6 rfl rfl)
theorem dX0_init_76 : decode cX0_init 76 = .ok (.putfield 51, 3) := dk_181 0 51 (dk_at dksX0_init_3 8 rfl rfl)
theorem dX0_init_79 : decode cX0_init 79 = .ok (.aload_n 0, 1) := dk_42 (dk_at dksX0_init_3 11 rfl rfl)
theorem dX0_init_80 : decode cX0_init 80 = .ok (.bipush 8, 2) := dk_16 8 (dk_at dksX0_init_3 12 rfl rfl)
theorem dX0_init_82 : decode cX0_init 82 = .ok (.newarray .long, 2) := dk_188_11 (dk_at dksX0_init_3 14 rfl rfl)
theorem dX0_init_84 : decode cX0_init 84 = .ok (.putfield 54, 3) := dk_181 0 54 (dk_at dksX0_init_3 16 rfl rfl)
theorem dX0_init_87 : decode cX0_init 87 = .ok (.aload_n 0, 1) := dk_42 (dk_at dksX0_init_3 19 rfl rfl)
theorem dX0_init_88 : decode cX0_init 88 = .ok (.sipush 13000, 3) := dk_17 50 200 (dk_at dksX0_init_3 20 rfl rfl)
theorem dX0_init_91 : decode cX0_init 91 = .ok (.newarray .long, 2) := dk_188_11 (dk_at dksX0_init_4 0 rfl rfl)
theorem dX0_init_93 : decode cX0_init 93 = .ok (.putfield 57, 3) := dk_181 0 57 (dk_at dksX0_init_4 2 rfl rfl)
theorem dX0_init_96 : decode cX0_init 96 = .ok (.aload_n 0, 1) := dk_42 (dk_at dksX0_init_4 5 rfl rfl)
theorem dX0_init_97 : decode cX0_init 97 = .ok (.bipush 40, 2) := dk_16 40 (dk_at dksX0_init_4 6 rfl rfl)
theorem dX0_init_99 : decode cX0_init 99 = .ok (.newarray .int, 2) := dk_188_10 (dk_at dksX0_init_4 8 rfl rfl)
theorem dX0_init_101 : decode cX0_init 101 = .ok (.putfield 60, 3) := dk_181 0 60 (dk_at dksX0_init_4 10 rfl rfl)
theorem dX0_init_104 : decode cX0_init 104 = .ok (.aload_n 0, 1) := dk_42 (dk_at dksX0_init_4 13 rfl rfl)
theorem dX0_init_105 : decode cX0_init 105 = .ok (.iconst 4, 1) := dk_7 (dk_at dksX0_init_4 14 rfl rfl)
theorem dX0_init_106 : decode cX0_init 106 = .ok (.anewarray 63, 3) := dk_189 0 63 (dk_at dksX0_init_4 15 rfl rfl)
theorem dX0_init_109 : decode cX0_init 109 = .ok (.dup, 1) := dk_89 (dk_at dksX0_init_4 18 rfl rfl)
theorem dX0_init_110 : decode cX0_init 110 = .ok (.iconst 0, 1) := dk_3 (dk_at dksX0_init_4 19 rfl rfl)
theorem dX0_init_111 : decode cX0_init 111 = .ok (.new 63, 3) := dk_187 0 63 (dk_at dksX0_init_4 20 rfl rfl)
theorem dX0_init_114 : decode cX0_init 114 = .ok (.dup, 1) := dk_89 (dk_at dksX0_init_4 23 rfl rfl)
theorem dX0_init_115 : decode cX0_init 115 = .ok (.invokespecial 65, 3) := dk_183 0 65 (dk_at dksX0_init_5 0 rfl rfl)
theorem dX0_init_118 : decode cX0_init 118 = .ok (.aastore, 1) := dk_83 (dk_at dksX0_init_5 3 rfl rfl)
theorem dX0_init_119 : decode cX0_init 119 = .ok (.dup, 1) := dk_89 (dk_at dksX0_init_5 4 rfl rfl)
theorem dX0_init_120 : decode cX0_init 120 = .ok (.iconst 1, 1) := dk_4 (dk_at dksX0_init_5 5 rfl rfl)
theorem dX0_init_121 : decode cX0_init 121 = .ok (.new 63, 3) := dk_187 0 63 (dk_at dksX0_init_5 6 rfl rfl)
theorem dX0_init_124 : decode cX0_init 124 = .ok (.dup, 1) := dk_89 (dk_at dksX0_init_5 9 rfl rfl)
theorem dX0_init_125 : decode cX0_init 125 = .ok (.invokespecial 65, 3) := dk_183 0 65 (dk_at dksX0_init_5 10 rfl rfl)
theorem dX0_init_128 : decode cX0_init 128 = .ok (.aastore, 1) := dk_83 (dk_at dksX0_init_5 13 rfl rfl)
theorem dX0_init_129 : decode cX0_init 129 = .ok (.dup, 1) := dk_89 (dk_at dksX0_init_5 14 rfl rfl)
theorem dX0_init_130 : decode cX0_init 130 = .ok (.iconst 2, 1) := dk_5 (dk_at dksX0_init_5 15 rfl rfl)
theorem dX0_init_131 : decode cX0_init 131 = .ok (.new 63, 3) := dk_187 0 63 (dk_at dksX0_init_5 16 rfl rfl)
theorem dX0_init_134 : decode cX0_init 134 = .ok (.dup, 1) := dk_89 (dk_at dksX0_init_5 19 rfl rfl)
theorem dX0_init_135 : decode cX0_init 135 = .ok (.invokespecial 65, 3) := dk_183 0 65 (dk_at dksX0_init_5 20 rfl rfl)
theorem dX0_init_138 : decode cX0_init 138 = .ok (.aastore, 1) := dk_83 (dk_at dksX0_init_5 23 rfl rfl)
theorem dX0_init_139 : decode cX0_init 139 = .ok (.dup, 1) := dk_89 (dk_at dksX0_init_6 0 rfl rfl)
theorem dX0_init_140 : decode cX0_init 140 = .ok (.iconst 3, 1) := dk_6 (dk_at dksX0_init_6 1 rfl rfl)
theorem dX0_init_141 : decode cX0_init 141 = .ok (.new 63, 3) := dk_187 0 63 (dk_at dksX0_init_6 2 rfl rfl)
theorem dX0_init_144 : decode cX0_init 144 = .ok (.dup, 1) := dk_89 (dk_at dksX0_init_6 5 rfl rfl)
theorem dX0_init_145 : decode cX0_init 145 = .ok (.invokespecial 65, 3) := dk_183 0 65 (dk_at dksX0_init_6 6 rfl rfl)
theorem dX0_init_148 : decode cX0_init 148 = .ok (.aastore, 1) := dk_83 (dk_at dksX0_init_6 9 rfl rfl)
theorem dX0_init_149 : decode cX0_init 149 = .ok (.putfield 66, 3) := dk_181 0 66 (dk_at dksX0_init_6 10 rfl rfl)
theorem dX0_init_152 : decode cX0_init 152 = .ok (.return_, 1) := dk_177 (dk_at dksX0_init_6 13 rfl rfl)
abbrev cX0_walks : ByteArray := prog_1_method_25_code
def yX0_walks : MethodName := ⟨RX0, "walks", "()[LFootOut$Walk;"⟩
def dkwX0_walks_1 : List UInt8 := [132, 1, 1, 167, 255, 237, 42, 176]
abbrev dktX0_walks_1 : List UInt8 := dkwX0_walks_1 ++ []
def dkwX0_walks_0 : List UInt8 := [16, 9, 189, 0, 32, 75, 3, 60, 27, 16, 8, 163, 0, 19, 42, 27, 187, 0, 32, 89, 183, 0, 34, 83]
abbrev dktX0_walks_0 : List UInt8 := dkwX0_walks_0 ++ dktX0_walks_1
theorem dksX0_walks_0 : cX0_walks.data.toList.drop 0 = dktX0_walks_0 := by decide +kernel
theorem dksX0_walks_1 : cX0_walks.data.toList.drop 24 = dktX0_walks_1 := dk_seg dksX0_walks_0 24 rfl rfl
theorem dX0_walks_0 : decode cX0_walks 0 = .ok (.bipush 9, 2) := dk_16 9 (dk_at dksX0_walks_0 0 rfl rfl)
theorem dX0_walks_2 : decode cX0_walks 2 = .ok (.anewarray 32, 3) := dk_189 0 32 (dk_at dksX0_walks_0 2 rfl rfl)
theorem dX0_walks_5 : decode cX0_walks 5 = .ok (.astore_n 0, 1) := dk_75 (dk_at dksX0_walks_0 5 rfl rfl)
theorem dX0_walks_6 : decode cX0_walks 6 = .ok (.iconst 0, 1) := dk_3 (dk_at dksX0_walks_0 6 rfl rfl)
theorem dX0_walks_7 : decode cX0_walks 7 = .ok (.istore_n 1, 1) := dk_60 (dk_at dksX0_walks_0 7 rfl rfl)
theorem dX0_walks_8 : decode cX0_walks 8 = .ok (.iload_n 1, 1) := dk_27 (dk_at dksX0_walks_0 8 rfl rfl)
theorem dX0_walks_9 : decode cX0_walks 9 = .ok (.bipush 8, 2) := dk_16 8 (dk_at dksX0_walks_0 9 rfl rfl)
theorem dX0_walks_11 : decode cX0_walks 11 = .ok (.if_icmp .gt 19, 3) := dk_163 0 19 (dk_at dksX0_walks_0 11 rfl rfl)
theorem dX0_walks_14 : decode cX0_walks 14 = .ok (.aload_n 0, 1) := dk_42 (dk_at dksX0_walks_0 14 rfl rfl)
theorem dX0_walks_15 : decode cX0_walks 15 = .ok (.iload_n 1, 1) := dk_27 (dk_at dksX0_walks_0 15 rfl rfl)
theorem dX0_walks_16 : decode cX0_walks 16 = .ok (.new 32, 3) := dk_187 0 32 (dk_at dksX0_walks_0 16 rfl rfl)
theorem dX0_walks_19 : decode cX0_walks 19 = .ok (.dup, 1) := dk_89 (dk_at dksX0_walks_0 19 rfl rfl)
theorem dX0_walks_20 : decode cX0_walks 20 = .ok (.invokespecial 34, 3) := dk_183 0 34 (dk_at dksX0_walks_0 20 rfl rfl)
theorem dX0_walks_23 : decode cX0_walks 23 = .ok (.aastore, 1) := dk_83 (dk_at dksX0_walks_0 23 rfl rfl)
theorem dX0_walks_24 : decode cX0_walks 24 = .ok (.iinc 1 1, 3) := dk_132 1 1 (dk_at dksX0_walks_1 0 rfl rfl)
theorem dX0_walks_27 : decode cX0_walks 27 = .ok (.goto (-19), 3) := dk_167 255 237 (dk_at dksX0_walks_1 3 rfl rfl)
theorem dX0_walks_30 : decode cX0_walks 30 = .ok (.aload_n 0, 1) := dk_42 (dk_at dksX0_walks_1 6 rfl rfl)
theorem dX0_walks_31 : decode cX0_walks 31 = .ok (.areturn, 1) := dk_176 (dk_at dksX0_walks_1 7 rfl rfl)
abbrev cX0_feed : ByteArray := prog_1_method_5_code
def yX0_feed : MethodName := ⟨RX0, "feed", "(IIIII)I"⟩
def dkwX0_feed_2 : List UInt8 := [182, 0, 77, 42, 180, 0, 70, 172]
abbrev dktX0_feed_2 : List UInt8 := dkwX0_feed_2 ++ []
def dkwX0_feed_1 : List UInt8 := [182, 0, 77, 42, 28, 182, 0, 77, 42, 29, 182, 0, 77, 42, 21, 4, 182, 0, 77, 42, 21, 5]
abbrev dktX0_feed_1 : List UInt8 := dkwX0_feed_1 ++ dktX0_feed_2
def dkwX0_feed_0 : List UInt8 := [42, 180, 0, 70, 16, 20, 96, 17, 1, 144, 164, 0, 10, 42, 16, 251, 182, 0, 73, 172, 42, 27]
abbrev dktX0_feed_0 : List UInt8 := dkwX0_feed_0 ++ dktX0_feed_1
theorem dksX0_feed_0 : cX0_feed.data.toList.drop 0 = dktX0_feed_0 := by decide +kernel
theorem dksX0_feed_1 : cX0_feed.data.toList.drop 22 = dktX0_feed_1 := dk_seg dksX0_feed_0 22 rfl rfl
theorem dksX0_feed_2 : cX0_feed.data.toList.drop 44 = dktX0_feed_2 := dk_seg dksX0_feed_1 22 rfl rfl
theorem dX0_feed_0 : decode cX0_feed 0 = .ok (.aload_n 0, 1) := dk_42 (dk_at dksX0_feed_0 0 rfl rfl)
theorem dX0_feed_1 : decode cX0_feed 1 = .ok (.getfield 70, 3) := dk_180 0 70 (dk_at dksX0_feed_0 1 rfl rfl)
theorem dX0_feed_4 : decode cX0_feed 4 = .ok (.bipush 20, 2) := dk_16 20 (dk_at dksX0_feed_0 4 rfl rfl)
theorem dX0_feed_6 : decode cX0_feed 6 = .ok (.iadd, 1) := dk_96 (dk_at dksX0_feed_0 6 rfl rfl)
theorem dX0_feed_7 : decode cX0_feed 7 = .ok (.sipush 400, 3) := dk_17 1 144 (dk_at dksX0_feed_0 7 rfl rfl)
theorem dX0_feed_10 : decode cX0_feed 10 = .ok (.if_icmp .le 10, 3) := dk_164 0 10 (dk_at dksX0_feed_0 10 rfl rfl)
theorem dX0_feed_13 : decode cX0_feed 13 = .ok (.aload_n 0, 1) := dk_42 (dk_at dksX0_feed_0 13 rfl rfl)
theorem dX0_feed_14 : decode cX0_feed 14 = .ok (.bipush (-5), 2) := dk_16 251 (dk_at dksX0_feed_0 14 rfl rfl)
theorem dX0_feed_16 : decode cX0_feed 16 = .ok (.invokevirtual 73, 3) := dk_182 0 73 (dk_at dksX0_feed_0 16 rfl rfl)
theorem dX0_feed_19 : decode cX0_feed 19 = .ok (.ireturn, 1) := dk_172 (dk_at dksX0_feed_0 19 rfl rfl)
theorem dX0_feed_20 : decode cX0_feed 20 = .ok (.aload_n 0, 1) := dk_42 (dk_at dksX0_feed_0 20 rfl rfl)
theorem dX0_feed_21 : decode cX0_feed 21 = .ok (.iload_n 1, 1) := dk_27 (dk_at dksX0_feed_0 21 rfl rfl)
theorem dX0_feed_22 : decode cX0_feed 22 = .ok (.invokevirtual 77, 3) := dk_182 0 77 (dk_at dksX0_feed_1 0 rfl rfl)
theorem dX0_feed_25 : decode cX0_feed 25 = .ok (.aload_n 0, 1) := dk_42 (dk_at dksX0_feed_1 3 rfl rfl)
theorem dX0_feed_26 : decode cX0_feed 26 = .ok (.iload_n 2, 1) := dk_28 (dk_at dksX0_feed_1 4 rfl rfl)
theorem dX0_feed_27 : decode cX0_feed 27 = .ok (.invokevirtual 77, 3) := dk_182 0 77 (dk_at dksX0_feed_1 5 rfl rfl)
theorem dX0_feed_30 : decode cX0_feed 30 = .ok (.aload_n 0, 1) := dk_42 (dk_at dksX0_feed_1 8 rfl rfl)
theorem dX0_feed_31 : decode cX0_feed 31 = .ok (.iload_n 3, 1) := dk_29 (dk_at dksX0_feed_1 9 rfl rfl)
theorem dX0_feed_32 : decode cX0_feed 32 = .ok (.invokevirtual 77, 3) := dk_182 0 77 (dk_at dksX0_feed_1 10 rfl rfl)
theorem dX0_feed_35 : decode cX0_feed 35 = .ok (.aload_n 0, 1) := dk_42 (dk_at dksX0_feed_1 13 rfl rfl)
theorem dX0_feed_36 : decode cX0_feed 36 = .ok (.iload 4, 2) := dk_21 4 (dk_at dksX0_feed_1 14 rfl rfl)
theorem dX0_feed_38 : decode cX0_feed 38 = .ok (.invokevirtual 77, 3) := dk_182 0 77 (dk_at dksX0_feed_1 16 rfl rfl)
theorem dX0_feed_41 : decode cX0_feed 41 = .ok (.aload_n 0, 1) := dk_42 (dk_at dksX0_feed_1 19 rfl rfl)
theorem dX0_feed_42 : decode cX0_feed 42 = .ok (.iload 5, 2) := dk_21 5 (dk_at dksX0_feed_1 20 rfl rfl)
theorem dX0_feed_44 : decode cX0_feed 44 = .ok (.invokevirtual 77, 3) := dk_182 0 77 (dk_at dksX0_feed_2 0 rfl rfl)
theorem dX0_feed_47 : decode cX0_feed 47 = .ok (.aload_n 0, 1) := dk_42 (dk_at dksX0_feed_2 3 rfl rfl)
theorem dX0_feed_48 : decode cX0_feed 48 = .ok (.getfield 70, 3) := dk_180 0 70 (dk_at dksX0_feed_2 4 rfl rfl)
theorem dX0_feed_51 : decode cX0_feed 51 = .ok (.ireturn, 1) := dk_172 (dk_at dksX0_feed_2 7 rfl rfl)
abbrev cX0_no : ByteArray := prog_1_method_4_code
def yX0_no : MethodName := ⟨RX0, "no", "(I)I"⟩
def dkwX0_no_2 : List UInt8 := [162, 0, 13, 27, 16, 216, 164, 0, 7, 8, 167, 0, 4, 3, 92, 46, 4, 96, 79, 27, 172]
abbrev dktX0_no_2 : List UInt8 := dkwX0_no_2 ++ []
def dkwX0_no_1 : List UInt8 := [27, 16, 250, 160, 0, 7, 6, 167, 0, 30, 27, 16, 249, 160, 0, 7, 7, 167, 0, 20, 27, 16, 226]
abbrev dktX0_no_1 : List UInt8 := dkwX0_no_1 ++ dktX0_no_2
def dkwX0_no_0 : List UInt8 := [42, 180, 0, 20, 27, 16, 253, 160, 0, 7, 4, 167, 0, 50, 27, 16, 251, 160, 0, 7, 5, 167, 0, 40]
abbrev dktX0_no_0 : List UInt8 := dkwX0_no_0 ++ dktX0_no_1
theorem dksX0_no_0 : cX0_no.data.toList.drop 0 = dktX0_no_0 := by decide +kernel
theorem dksX0_no_1 : cX0_no.data.toList.drop 24 = dktX0_no_1 := dk_seg dksX0_no_0 24 rfl rfl
theorem dksX0_no_2 : cX0_no.data.toList.drop 47 = dktX0_no_2 := dk_seg dksX0_no_1 23 rfl rfl
theorem dX0_no_0 : decode cX0_no 0 = .ok (.aload_n 0, 1) := dk_42 (dk_at dksX0_no_0 0 rfl rfl)
theorem dX0_no_1 : decode cX0_no 1 = .ok (.getfield 20, 3) := dk_180 0 20 (dk_at dksX0_no_0 1 rfl rfl)
theorem dX0_no_4 : decode cX0_no 4 = .ok (.iload_n 1, 1) := dk_27 (dk_at dksX0_no_0 4 rfl rfl)
theorem dX0_no_5 : decode cX0_no 5 = .ok (.bipush (-3), 2) := dk_16 253 (dk_at dksX0_no_0 5 rfl rfl)
theorem dX0_no_7 : decode cX0_no 7 = .ok (.if_icmp .ne 7, 3) := dk_160 0 7 (dk_at dksX0_no_0 7 rfl rfl)
theorem dX0_no_10 : decode cX0_no 10 = .ok (.iconst 1, 1) := dk_4 (dk_at dksX0_no_0 10 rfl rfl)
theorem dX0_no_11 : decode cX0_no 11 = .ok (.goto 50, 3) := dk_167 0 50 (dk_at dksX0_no_0 11 rfl rfl)
theorem dX0_no_14 : decode cX0_no 14 = .ok (.iload_n 1, 1) := dk_27 (dk_at dksX0_no_0 14 rfl rfl)
theorem dX0_no_15 : decode cX0_no 15 = .ok (.bipush (-5), 2) := dk_16 251 (dk_at dksX0_no_0 15 rfl rfl)
theorem dX0_no_17 : decode cX0_no 17 = .ok (.if_icmp .ne 7, 3) := dk_160 0 7 (dk_at dksX0_no_0 17 rfl rfl)
theorem dX0_no_20 : decode cX0_no 20 = .ok (.iconst 2, 1) := dk_5 (dk_at dksX0_no_0 20 rfl rfl)
theorem dX0_no_21 : decode cX0_no 21 = .ok (.goto 40, 3) := dk_167 0 40 (dk_at dksX0_no_0 21 rfl rfl)
theorem dX0_no_24 : decode cX0_no 24 = .ok (.iload_n 1, 1) := dk_27 (dk_at dksX0_no_1 0 rfl rfl)
theorem dX0_no_25 : decode cX0_no 25 = .ok (.bipush (-6), 2) := dk_16 250 (dk_at dksX0_no_1 1 rfl rfl)
theorem dX0_no_27 : decode cX0_no 27 = .ok (.if_icmp .ne 7, 3) := dk_160 0 7 (dk_at dksX0_no_1 3 rfl rfl)
theorem dX0_no_30 : decode cX0_no 30 = .ok (.iconst 3, 1) := dk_6 (dk_at dksX0_no_1 6 rfl rfl)
theorem dX0_no_31 : decode cX0_no 31 = .ok (.goto 30, 3) := dk_167 0 30 (dk_at dksX0_no_1 7 rfl rfl)
theorem dX0_no_34 : decode cX0_no 34 = .ok (.iload_n 1, 1) := dk_27 (dk_at dksX0_no_1 10 rfl rfl)
theorem dX0_no_35 : decode cX0_no 35 = .ok (.bipush (-7), 2) := dk_16 249 (dk_at dksX0_no_1 11 rfl rfl)
theorem dX0_no_37 : decode cX0_no 37 = .ok (.if_icmp .ne 7, 3) := dk_160 0 7 (dk_at dksX0_no_1 13 rfl rfl)
theorem dX0_no_40 : decode cX0_no 40 = .ok (.iconst 4, 1) := dk_7 (dk_at dksX0_no_1 16 rfl rfl)
theorem dX0_no_41 : decode cX0_no 41 = .ok (.goto 20, 3) := dk_167 0 20 (dk_at dksX0_no_1 17 rfl rfl)
theorem dX0_no_44 : decode cX0_no 44 = .ok (.iload_n 1, 1) := dk_27 (dk_at dksX0_no_1 20 rfl rfl)
theorem dX0_no_45 : decode cX0_no 45 = .ok (.bipush (-30), 2) := dk_16 226 (dk_at dksX0_no_1 21 rfl rfl)
theorem dX0_no_47 : decode cX0_no 47 = .ok (.if_icmp .ge 13, 3) := dk_162 0 13 (dk_at dksX0_no_2 0 rfl rfl)
theorem dX0_no_50 : decode cX0_no 50 = .ok (.iload_n 1, 1) := dk_27 (dk_at dksX0_no_2 3 rfl rfl)
theorem dX0_no_51 : decode cX0_no 51 = .ok (.bipush (-40), 2) := dk_16 216 (dk_at dksX0_no_2 4 rfl rfl)
theorem dX0_no_53 : decode cX0_no 53 = .ok (.if_icmp .le 7, 3) := dk_164 0 7 (dk_at dksX0_no_2 6 rfl rfl)
theorem dX0_no_56 : decode cX0_no 56 = .ok (.iconst 5, 1) := dk_8 (dk_at dksX0_no_2 9 rfl rfl)
theorem dX0_no_57 : decode cX0_no 57 = .ok (.goto 4, 3) := dk_167 0 4 (dk_at dksX0_no_2 10 rfl rfl)
theorem dX0_no_60 : decode cX0_no 60 = .ok (.iconst 0, 1) := dk_3 (dk_at dksX0_no_2 13 rfl rfl)
theorem dX0_no_61 : decode cX0_no 61 = .ok (.dup2, 1) := dk_92 (dk_at dksX0_no_2 14 rfl rfl)
theorem dX0_no_62 : decode cX0_no 62 = .ok (.iaload, 1) := dk_46 (dk_at dksX0_no_2 15 rfl rfl)
theorem dX0_no_63 : decode cX0_no 63 = .ok (.iconst 1, 1) := dk_4 (dk_at dksX0_no_2 16 rfl rfl)
theorem dX0_no_64 : decode cX0_no 64 = .ok (.iadd, 1) := dk_96 (dk_at dksX0_no_2 17 rfl rfl)
theorem dX0_no_65 : decode cX0_no 65 = .ok (.iastore, 1) := dk_79 (dk_at dksX0_no_2 18 rfl rfl)
theorem dX0_no_66 : decode cX0_no 66 = .ok (.iload_n 1, 1) := dk_27 (dk_at dksX0_no_2 19 rfl rfl)
theorem dX0_no_67 : decode cX0_no 67 = .ok (.ireturn, 1) := dk_172 (dk_at dksX0_no_2 20 rfl rfl)
abbrev cX0_bytes : ByteArray := prog_1_method_6_code
def yX0_bytes : MethodName := ⟨RX0, "bytes", "(I)V"⟩
def dkwX0_bytes_1 : List UInt8 := [180, 0, 70, 4, 96, 181, 0, 70, 132, 2, 248, 167, 255, 226, 177]
abbrev dktX0_bytes_1 : List UInt8 := dkwX0_bytes_1 ++ []
def dkwX0_bytes_0 : List UInt8 := [16, 24, 61, 28, 155, 0, 32, 42, 180, 0, 24, 42, 180, 0, 70, 27, 28, 122, 145, 84, 42, 89]
abbrev dktX0_bytes_0 : List UInt8 := dkwX0_bytes_0 ++ dktX0_bytes_1
theorem dksX0_bytes_0 : cX0_bytes.data.toList.drop 0 = dktX0_bytes_0 := by decide +kernel
theorem dksX0_bytes_1 : cX0_bytes.data.toList.drop 22 = dktX0_bytes_1 := dk_seg dksX0_bytes_0 22 rfl rfl
theorem dX0_bytes_0 : decode cX0_bytes 0 = .ok (.bipush 24, 2) := dk_16 24 (dk_at dksX0_bytes_0 0 rfl rfl)
theorem dX0_bytes_2 : decode cX0_bytes 2 = .ok (.istore_n 2, 1) := dk_61 (dk_at dksX0_bytes_0 2 rfl rfl)
theorem dX0_bytes_3 : decode cX0_bytes 3 = .ok (.iload_n 2, 1) := dk_28 (dk_at dksX0_bytes_0 3 rfl rfl)
theorem dX0_bytes_4 : decode cX0_bytes 4 = .ok (.ifCond .lt 32, 3) := dk_155 0 32 (dk_at dksX0_bytes_0 4 rfl rfl)
theorem dX0_bytes_7 : decode cX0_bytes 7 = .ok (.aload_n 0, 1) := dk_42 (dk_at dksX0_bytes_0 7 rfl rfl)
theorem dX0_bytes_8 : decode cX0_bytes 8 = .ok (.getfield 24, 3) := dk_180 0 24 (dk_at dksX0_bytes_0 8 rfl rfl)
theorem dX0_bytes_11 : decode cX0_bytes 11 = .ok (.aload_n 0, 1) := dk_42 (dk_at dksX0_bytes_0 11 rfl rfl)
theorem dX0_bytes_12 : decode cX0_bytes 12 = .ok (.getfield 70, 3) := dk_180 0 70 (dk_at dksX0_bytes_0 12 rfl rfl)
theorem dX0_bytes_15 : decode cX0_bytes 15 = .ok (.iload_n 1, 1) := dk_27 (dk_at dksX0_bytes_0 15 rfl rfl)
theorem dX0_bytes_16 : decode cX0_bytes 16 = .ok (.iload_n 2, 1) := dk_28 (dk_at dksX0_bytes_0 16 rfl rfl)
theorem dX0_bytes_17 : decode cX0_bytes 17 = .ok (.ishr, 1) := dk_122 (dk_at dksX0_bytes_0 17 rfl rfl)
theorem dX0_bytes_18 : decode cX0_bytes 18 = .ok (.i2b, 1) := dk_145 (dk_at dksX0_bytes_0 18 rfl rfl)
theorem dX0_bytes_19 : decode cX0_bytes 19 = .ok (.bastore, 1) := dk_84 (dk_at dksX0_bytes_0 19 rfl rfl)
theorem dX0_bytes_20 : decode cX0_bytes 20 = .ok (.aload_n 0, 1) := dk_42 (dk_at dksX0_bytes_0 20 rfl rfl)
theorem dX0_bytes_21 : decode cX0_bytes 21 = .ok (.dup, 1) := dk_89 (dk_at dksX0_bytes_0 21 rfl rfl)
theorem dX0_bytes_22 : decode cX0_bytes 22 = .ok (.getfield 70, 3) := dk_180 0 70 (dk_at dksX0_bytes_1 0 rfl rfl)
theorem dX0_bytes_25 : decode cX0_bytes 25 = .ok (.iconst 1, 1) := dk_4 (dk_at dksX0_bytes_1 3 rfl rfl)
theorem dX0_bytes_26 : decode cX0_bytes 26 = .ok (.iadd, 1) := dk_96 (dk_at dksX0_bytes_1 4 rfl rfl)
theorem dX0_bytes_27 : decode cX0_bytes 27 = .ok (.putfield 70, 3) := dk_181 0 70 (dk_at dksX0_bytes_1 5 rfl rfl)
theorem dX0_bytes_30 : decode cX0_bytes 30 = .ok (.iinc 2 (-8), 3) := dk_132 2 248 (dk_at dksX0_bytes_1 8 rfl rfl)
theorem dX0_bytes_33 : decode cX0_bytes 33 = .ok (.goto (-30), 3) := dk_167 255 226 (dk_at dksX0_bytes_1 11 rfl rfl)
theorem dX0_bytes_36 : decode cX0_bytes 36 = .ok (.return_, 1) := dk_177 (dk_at dksX0_bytes_1 14 rfl rfl)
abbrev cX0_text : ByteArray := prog_1_method_7_code
def yX0_text : MethodName := ⟨RX0, "text", "(II)I"⟩
def dkwX0_text_6 : List UInt8 := [180, 0, 115, 180, 0, 119, 172]
abbrev dktX0_text_6 : List UInt8 := dkwX0_text_6 ++ []
def dkwX0_text_5 : List UInt8 := [181, 0, 108, 45, 180, 0, 105, 182, 0, 109, 172, 42, 180, 0, 10, 45, 180, 0, 115, 181, 0, 118, 45]
abbrev dktX0_text_5 : List UInt8 := dkwX0_text_5 ++ dktX0_text_6
def dkwX0_text_4 : List UInt8 := [42, 180, 0, 99, 100, 182, 0, 73, 172, 27, 4, 160, 0, 22, 42, 180, 0, 10, 45, 180, 0, 105]
abbrev dktX0_text_4 : List UInt8 := dkwX0_text_4 ++ dktX0_text_5
def dkwX0_text_3 : List UInt8 := [180, 0, 96, 181, 0, 99, 42, 45, 180, 0, 102, 181, 0, 28, 42, 180, 0, 99, 153, 0, 15, 42, 16, 226]
abbrev dktX0_text_3 : List UInt8 := dkwX0_text_3 ++ dktX0_text_4
def dkwX0_text_2 : List UInt8 := [27, 154, 0, 10, 45, 182, 0, 90, 167, 0, 7, 45, 182, 0, 93, 42, 3, 181, 0, 70, 42, 45]
abbrev dktX0_text_2 : List UInt8 := dkwX0_text_2 ++ dktX0_text_3
def dkwX0_text_1 : List UInt8 := [133, 184, 0, 81, 154, 0, 10, 42, 16, 253, 182, 0, 73, 172, 187, 0, 85, 89, 42, 28, 183, 0, 87, 78]
abbrev dktX0_text_1 : List UInt8 := dkwX0_text_1 ++ dktX0_text_2
def dkwX0_text_0 : List UInt8 := [27, 133, 9, 10, 184, 0, 81, 154, 0, 10, 42, 16, 254, 182, 0, 73, 172, 28, 133, 9, 42, 180, 0, 70]
abbrev dktX0_text_0 : List UInt8 := dkwX0_text_0 ++ dktX0_text_1
theorem dksX0_text_0 : cX0_text.data.toList.drop 0 = dktX0_text_0 := by decide +kernel
theorem dksX0_text_1 : cX0_text.data.toList.drop 24 = dktX0_text_1 := dk_seg dksX0_text_0 24 rfl rfl
theorem dksX0_text_2 : cX0_text.data.toList.drop 48 = dktX0_text_2 := dk_seg dksX0_text_1 24 rfl rfl
theorem dksX0_text_3 : cX0_text.data.toList.drop 70 = dktX0_text_3 := dk_seg dksX0_text_2 22 rfl rfl
theorem dksX0_text_4 : cX0_text.data.toList.drop 94 = dktX0_text_4 := dk_seg dksX0_text_3 24 rfl rfl
theorem dksX0_text_5 : cX0_text.data.toList.drop 116 = dktX0_text_5 := dk_seg dksX0_text_4 22 rfl rfl
theorem dksX0_text_6 : cX0_text.data.toList.drop 139 = dktX0_text_6 := dk_seg dksX0_text_5 23 rfl rfl
theorem dX0_text_0 : decode cX0_text 0 = .ok (.iload_n 1, 1) := dk_27 (dk_at dksX0_text_0 0 rfl rfl)
theorem dX0_text_1 : decode cX0_text 1 = .ok (.i2l, 1) := dk_133 (dk_at dksX0_text_0 1 rfl rfl)
theorem dX0_text_2 : decode cX0_text 2 = .ok (.lconst 0, 1) := dk_9 (dk_at dksX0_text_0 2 rfl rfl)
theorem dX0_text_3 : decode cX0_text 3 = .ok (.lconst 1, 1) := dk_10 (dk_at dksX0_text_0 3 rfl rfl)
theorem dX0_text_4 : decode cX0_text 4 = .ok (.invokestatic 81, 3) := dk_184 0 81 (dk_at dksX0_text_0 4 rfl rfl)
theorem dX0_text_7 : decode cX0_text 7 = .ok (.ifCond .ne 10, 3) := dk_154 0 10 (dk_at dksX0_text_0 7 rfl rfl)
theorem dX0_text_10 : decode cX0_text 10 = .ok (.aload_n 0, 1) := dk_42 (dk_at dksX0_text_0 10 rfl rfl)
theorem dX0_text_11 : decode cX0_text 11 = .ok (.bipush (-2), 2) := dk_16 254 (dk_at dksX0_text_0 11 rfl rfl)
theorem dX0_text_13 : decode cX0_text 13 = .ok (.invokevirtual 73, 3) := dk_182 0 73 (dk_at dksX0_text_0 13 rfl rfl)
theorem dX0_text_16 : decode cX0_text 16 = .ok (.ireturn, 1) := dk_172 (dk_at dksX0_text_0 16 rfl rfl)
theorem dX0_text_17 : decode cX0_text 17 = .ok (.iload_n 2, 1) := dk_28 (dk_at dksX0_text_0 17 rfl rfl)
theorem dX0_text_18 : decode cX0_text 18 = .ok (.i2l, 1) := dk_133 (dk_at dksX0_text_0 18 rfl rfl)
theorem dX0_text_19 : decode cX0_text 19 = .ok (.lconst 0, 1) := dk_9 (dk_at dksX0_text_0 19 rfl rfl)
theorem dX0_text_20 : decode cX0_text 20 = .ok (.aload_n 0, 1) := dk_42 (dk_at dksX0_text_0 20 rfl rfl)
theorem dX0_text_21 : decode cX0_text 21 = .ok (.getfield 70, 3) := dk_180 0 70 (dk_at dksX0_text_0 21 rfl rfl)
theorem dX0_text_24 : decode cX0_text 24 = .ok (.i2l, 1) := dk_133 (dk_at dksX0_text_1 0 rfl rfl)
theorem dX0_text_25 : decode cX0_text 25 = .ok (.invokestatic 81, 3) := dk_184 0 81 (dk_at dksX0_text_1 1 rfl rfl)
theorem dX0_text_28 : decode cX0_text 28 = .ok (.ifCond .ne 10, 3) := dk_154 0 10 (dk_at dksX0_text_1 4 rfl rfl)
theorem dX0_text_31 : decode cX0_text 31 = .ok (.aload_n 0, 1) := dk_42 (dk_at dksX0_text_1 7 rfl rfl)
theorem dX0_text_32 : decode cX0_text 32 = .ok (.bipush (-3), 2) := dk_16 253 (dk_at dksX0_text_1 8 rfl rfl)
theorem dX0_text_34 : decode cX0_text 34 = .ok (.invokevirtual 73, 3) := dk_182 0 73 (dk_at dksX0_text_1 10 rfl rfl)
theorem dX0_text_37 : decode cX0_text 37 = .ok (.ireturn, 1) := dk_172 (dk_at dksX0_text_1 13 rfl rfl)
theorem dX0_text_38 : decode cX0_text 38 = .ok (.new 85, 3) := dk_187 0 85 (dk_at dksX0_text_1 14 rfl rfl)
theorem dX0_text_41 : decode cX0_text 41 = .ok (.dup, 1) := dk_89 (dk_at dksX0_text_1 17 rfl rfl)
theorem dX0_text_42 : decode cX0_text 42 = .ok (.aload_n 0, 1) := dk_42 (dk_at dksX0_text_1 18 rfl rfl)
theorem dX0_text_43 : decode cX0_text 43 = .ok (.iload_n 2, 1) := dk_28 (dk_at dksX0_text_1 19 rfl rfl)
theorem dX0_text_44 : decode cX0_text 44 = .ok (.invokespecial 87, 3) := dk_183 0 87 (dk_at dksX0_text_1 20 rfl rfl)
theorem dX0_text_47 : decode cX0_text 47 = .ok (.astore_n 3, 1) := dk_78 (dk_at dksX0_text_1 23 rfl rfl)
theorem dX0_text_48 : decode cX0_text 48 = .ok (.iload_n 1, 1) := dk_27 (dk_at dksX0_text_2 0 rfl rfl)
theorem dX0_text_49 : decode cX0_text 49 = .ok (.ifCond .ne 10, 3) := dk_154 0 10 (dk_at dksX0_text_2 1 rfl rfl)
theorem dX0_text_52 : decode cX0_text 52 = .ok (.aload_n 3, 1) := dk_45 (dk_at dksX0_text_2 4 rfl rfl)
theorem dX0_text_53 : decode cX0_text 53 = .ok (.invokevirtual 90, 3) := dk_182 0 90 (dk_at dksX0_text_2 5 rfl rfl)
theorem dX0_text_56 : decode cX0_text 56 = .ok (.goto 7, 3) := dk_167 0 7 (dk_at dksX0_text_2 8 rfl rfl)
theorem dX0_text_59 : decode cX0_text 59 = .ok (.aload_n 3, 1) := dk_45 (dk_at dksX0_text_2 11 rfl rfl)
theorem dX0_text_60 : decode cX0_text 60 = .ok (.invokevirtual 93, 3) := dk_182 0 93 (dk_at dksX0_text_2 12 rfl rfl)
theorem dX0_text_63 : decode cX0_text 63 = .ok (.aload_n 0, 1) := dk_42 (dk_at dksX0_text_2 15 rfl rfl)
theorem dX0_text_64 : decode cX0_text 64 = .ok (.iconst 0, 1) := dk_3 (dk_at dksX0_text_2 16 rfl rfl)
theorem dX0_text_65 : decode cX0_text 65 = .ok (.putfield 70, 3) := dk_181 0 70 (dk_at dksX0_text_2 17 rfl rfl)
theorem dX0_text_68 : decode cX0_text 68 = .ok (.aload_n 0, 1) := dk_42 (dk_at dksX0_text_2 20 rfl rfl)
theorem dX0_text_69 : decode cX0_text 69 = .ok (.aload_n 3, 1) := dk_45 (dk_at dksX0_text_2 21 rfl rfl)
theorem dX0_text_70 : decode cX0_text 70 = .ok (.getfield 96, 3) := dk_180 0 96 (dk_at dksX0_text_3 0 rfl rfl)
theorem dX0_text_73 : decode cX0_text 73 = .ok (.putfield 99, 3) := dk_181 0 99 (dk_at dksX0_text_3 3 rfl rfl)
theorem dX0_text_76 : decode cX0_text 76 = .ok (.aload_n 0, 1) := dk_42 (dk_at dksX0_text_3 6 rfl rfl)
theorem dX0_text_77 : decode cX0_text 77 = .ok (.aload_n 3, 1) := dk_45 (dk_at dksX0_text_3 7 rfl rfl)
theorem dX0_text_78 : decode cX0_text 78 = .ok (.getfield 102, 3) := dk_180 0 102 (dk_at dksX0_text_3 8 rfl rfl)
theorem dX0_text_81 : decode cX0_text 81 = .ok (.putfield 28, 3) := dk_181 0 28 (dk_at dksX0_text_3 11 rfl rfl)
theorem dX0_text_84 : decode cX0_text 84 = .ok (.aload_n 0, 1) := dk_42 (dk_at dksX0_text_3 14 rfl rfl)
theorem dX0_text_85 : decode cX0_text 85 = .ok (.getfield 99, 3) := dk_180 0 99 (dk_at dksX0_text_3 15 rfl rfl)
theorem dX0_text_88 : decode cX0_text 88 = .ok (.ifCond .eq 15, 3) := dk_153 0 15 (dk_at dksX0_text_3 18 rfl rfl)
theorem dX0_text_91 : decode cX0_text 91 = .ok (.aload_n 0, 1) := dk_42 (dk_at dksX0_text_3 21 rfl rfl)
theorem dX0_text_92 : decode cX0_text 92 = .ok (.bipush (-30), 2) := dk_16 226 (dk_at dksX0_text_3 22 rfl rfl)
theorem dX0_text_94 : decode cX0_text 94 = .ok (.aload_n 0, 1) := dk_42 (dk_at dksX0_text_4 0 rfl rfl)
theorem dX0_text_95 : decode cX0_text 95 = .ok (.getfield 99, 3) := dk_180 0 99 (dk_at dksX0_text_4 1 rfl rfl)
theorem dX0_text_98 : decode cX0_text 98 = .ok (.isub, 1) := dk_100 (dk_at dksX0_text_4 4 rfl rfl)
theorem dX0_text_99 : decode cX0_text 99 = .ok (.invokevirtual 73, 3) := dk_182 0 73 (dk_at dksX0_text_4 5 rfl rfl)
theorem dX0_text_102 : decode cX0_text 102 = .ok (.ireturn, 1) := dk_172 (dk_at dksX0_text_4 8 rfl rfl)
theorem dX0_text_103 : decode cX0_text 103 = .ok (.iload_n 1, 1) := dk_27 (dk_at dksX0_text_4 9 rfl rfl)
theorem dX0_text_104 : decode cX0_text 104 = .ok (.iconst 1, 1) := dk_4 (dk_at dksX0_text_4 10 rfl rfl)
theorem dX0_text_105 : decode cX0_text 105 = .ok (.if_icmp .ne 22, 3) := dk_160 0 22 (dk_at dksX0_text_4 11 rfl rfl)
theorem dX0_text_108 : decode cX0_text 108 = .ok (.aload_n 0, 1) := dk_42 (dk_at dksX0_text_4 14 rfl rfl)
theorem dX0_text_109 : decode cX0_text 109 = .ok (.getfield 10, 3) := dk_180 0 10 (dk_at dksX0_text_4 15 rfl rfl)
theorem dX0_text_112 : decode cX0_text 112 = .ok (.aload_n 3, 1) := dk_45 (dk_at dksX0_text_4 18 rfl rfl)
theorem dX0_text_113 : decode cX0_text 113 = .ok (.getfield 105, 3) := dk_180 0 105 (dk_at dksX0_text_4 19 rfl rfl)
theorem dX0_text_116 : decode cX0_text 116 = .ok (.putfield 108, 3) := dk_181 0 108 (dk_at dksX0_text_5 0 rfl rfl)
theorem dX0_text_119 : decode cX0_text 119 = .ok (.aload_n 3, 1) := dk_45 (dk_at dksX0_text_5 3 rfl rfl)
theorem dX0_text_120 : decode cX0_text 120 = .ok (.getfield 105, 3) := dk_180 0 105 (dk_at dksX0_text_5 4 rfl rfl)
theorem dX0_text_123 : decode cX0_text 123 = .ok (.invokevirtual 109, 3) := dk_182 0 109 (dk_at dksX0_text_5 7 rfl rfl)
theorem dX0_text_126 : decode cX0_text 126 = .ok (.ireturn, 1) := dk_172 (dk_at dksX0_text_5 10 rfl rfl)
theorem dX0_text_127 : decode cX0_text 127 = .ok (.aload_n 0, 1) := dk_42 (dk_at dksX0_text_5 11 rfl rfl)
theorem dX0_text_128 : decode cX0_text 128 = .ok (.getfield 10, 3) := dk_180 0 10 (dk_at dksX0_text_5 12 rfl rfl)
theorem dX0_text_131 : decode cX0_text 131 = .ok (.aload_n 3, 1) := dk_45 (dk_at dksX0_text_5 15 rfl rfl)
theorem dX0_text_132 : decode cX0_text 132 = .ok (.getfield 115, 3) := dk_180 0 115 (dk_at dksX0_text_5 16 rfl rfl)
theorem dX0_text_135 : decode cX0_text 135 = .ok (.putfield 118, 3) := dk_181 0 118 (dk_at dksX0_text_5 19 rfl rfl)
theorem dX0_text_138 : decode cX0_text 138 = .ok (.aload_n 3, 1) := dk_45 (dk_at dksX0_text_5 22 rfl rfl)
theorem dX0_text_139 : decode cX0_text 139 = .ok (.getfield 115, 3) := dk_180 0 115 (dk_at dksX0_text_6 0 rfl rfl)
theorem dX0_text_142 : decode cX0_text 142 = .ok (.getfield 119, 3) := dk_180 0 119 (dk_at dksX0_text_6 3 rfl rfl)
theorem dX0_text_145 : decode cX0_text 145 = .ok (.ireturn, 1) := dk_172 (dk_at dksX0_text_6 6 rfl rfl)
abbrev cX0_in : ByteArray := prog_1_method_1_code
def yX0_in : MethodName := ⟨RX0, "in", "(JJJ)Z"⟩
def dkwX0_in_0 : List UInt8 := [30, 32, 148, 155, 0, 14, 30, 22, 4, 148, 157, 0, 7, 4, 167, 0, 4, 3, 172]
abbrev dktX0_in_0 : List UInt8 := dkwX0_in_0 ++ []
theorem dksX0_in_0 : cX0_in.data.toList.drop 0 = dktX0_in_0 := by decide +kernel
theorem dX0_in_0 : decode cX0_in 0 = .ok (.lload_n 0, 1) := dk_30 (dk_at dksX0_in_0 0 rfl rfl)
theorem dX0_in_1 : decode cX0_in 1 = .ok (.lload_n 2, 1) := dk_32 (dk_at dksX0_in_0 1 rfl rfl)
theorem dX0_in_2 : decode cX0_in 2 = .ok (.lcmp, 1) := dk_148 (dk_at dksX0_in_0 2 rfl rfl)
theorem dX0_in_3 : decode cX0_in 3 = .ok (.ifCond .lt 14, 3) := dk_155 0 14 (dk_at dksX0_in_0 3 rfl rfl)
theorem dX0_in_6 : decode cX0_in 6 = .ok (.lload_n 0, 1) := dk_30 (dk_at dksX0_in_0 6 rfl rfl)
theorem dX0_in_7 : decode cX0_in 7 = .ok (.lload 4, 2) := dk_22 4 (dk_at dksX0_in_0 7 rfl rfl)
theorem dX0_in_9 : decode cX0_in 9 = .ok (.lcmp, 1) := dk_148 (dk_at dksX0_in_0 9 rfl rfl)
theorem dX0_in_10 : decode cX0_in 10 = .ok (.ifCond .gt 7, 3) := dk_157 0 7 (dk_at dksX0_in_0 10 rfl rfl)
theorem dX0_in_13 : decode cX0_in 13 = .ok (.iconst 1, 1) := dk_4 (dk_at dksX0_in_0 13 rfl rfl)
theorem dX0_in_14 : decode cX0_in 14 = .ok (.goto 4, 3) := dk_167 0 4 (dk_at dksX0_in_0 14 rfl rfl)
theorem dX0_in_17 : decode cX0_in 17 = .ok (.iconst 0, 1) := dk_3 (dk_at dksX0_in_0 17 rfl rfl)
theorem dX0_in_18 : decode cX0_in 18 = .ok (.ireturn, 1) := dk_172 (dk_at dksX0_in_0 18 rfl rfl)
abbrev cX0_fault : ByteArray := prog_1_method_8_code
def yX0_fault : MethodName := ⟨RX0, "fault", "(I)I"⟩
def dkwX0_fault_1 : List UInt8 := [172]
abbrev dktX0_fault_1 : List UInt8 := dkwX0_fault_1 ++ []
def dkwX0_fault_0 : List UInt8 := [27, 154, 0, 10, 42, 180, 0, 99, 167, 0, 16, 27, 4, 160, 0, 10, 42, 180, 0, 28, 167, 0, 4, 2]
abbrev dktX0_fault_0 : List UInt8 := dkwX0_fault_0 ++ dktX0_fault_1
theorem dksX0_fault_0 : cX0_fault.data.toList.drop 0 = dktX0_fault_0 := by decide +kernel
theorem dksX0_fault_1 : cX0_fault.data.toList.drop 24 = dktX0_fault_1 := dk_seg dksX0_fault_0 24 rfl rfl
theorem dX0_fault_0 : decode cX0_fault 0 = .ok (.iload_n 1, 1) := dk_27 (dk_at dksX0_fault_0 0 rfl rfl)
theorem dX0_fault_1 : decode cX0_fault 1 = .ok (.ifCond .ne 10, 3) := dk_154 0 10 (dk_at dksX0_fault_0 1 rfl rfl)
theorem dX0_fault_4 : decode cX0_fault 4 = .ok (.aload_n 0, 1) := dk_42 (dk_at dksX0_fault_0 4 rfl rfl)
theorem dX0_fault_5 : decode cX0_fault 5 = .ok (.getfield 99, 3) := dk_180 0 99 (dk_at dksX0_fault_0 5 rfl rfl)
theorem dX0_fault_8 : decode cX0_fault 8 = .ok (.goto 16, 3) := dk_167 0 16 (dk_at dksX0_fault_0 8 rfl rfl)
theorem dX0_fault_11 : decode cX0_fault 11 = .ok (.iload_n 1, 1) := dk_27 (dk_at dksX0_fault_0 11 rfl rfl)
theorem dX0_fault_12 : decode cX0_fault 12 = .ok (.iconst 1, 1) := dk_4 (dk_at dksX0_fault_0 12 rfl rfl)
theorem dX0_fault_13 : decode cX0_fault 13 = .ok (.if_icmp .ne 10, 3) := dk_160 0 10 (dk_at dksX0_fault_0 13 rfl rfl)
theorem dX0_fault_16 : decode cX0_fault 16 = .ok (.aload_n 0, 1) := dk_42 (dk_at dksX0_fault_0 16 rfl rfl)
theorem dX0_fault_17 : decode cX0_fault 17 = .ok (.getfield 28, 3) := dk_180 0 28 (dk_at dksX0_fault_0 17 rfl rfl)
theorem dX0_fault_20 : decode cX0_fault 20 = .ok (.goto 4, 3) := dk_167 0 4 (dk_at dksX0_fault_0 20 rfl rfl)
theorem dX0_fault_23 : decode cX0_fault 23 = .ok (.iconst (-1), 1) := dk_2 (dk_at dksX0_fault_0 23 rfl rfl)
theorem dX0_fault_24 : decode cX0_fault 24 = .ok (.ireturn, 1) := dk_172 (dk_at dksX0_fault_1 0 rfl rfl)
abbrev cX0_car : ByteArray := prog_1_method_10_code
def yX0_car : MethodName := ⟨RX0, "car", "(II)I"⟩
def dkwX0_car_3 : List UInt8 := [160, 0, 10, 45, 180, 0, 145, 167, 0, 7, 45, 180, 0, 148, 172]
abbrev dktX0_car_3 : List UInt8 := dkwX0_car_3 ++ []
def dkwX0_car_2 : List UInt8 := [154, 0, 10, 45, 180, 0, 139, 167, 0, 31, 28, 4, 160, 0, 10, 45, 180, 0, 142, 167, 0, 19, 28, 5]
abbrev dktX0_car_2 : List UInt8 := dkwX0_car_2 ++ dktX0_car_3
def dkwX0_car_1 : List UInt8 := [182, 0, 73, 172, 42, 180, 0, 10, 180, 0, 118, 180, 0, 124, 27, 182, 0, 133, 192, 0, 137, 78, 28]
abbrev dktX0_car_1 : List UInt8 := dkwX0_car_1 ++ dktX0_car_2
def dkwX0_car_0 : List UInt8 := [42, 27, 182, 0, 127, 153, 0, 15, 28, 133, 9, 20, 0, 131, 184, 0, 81, 154, 0, 10, 42, 16, 254]
abbrev dktX0_car_0 : List UInt8 := dkwX0_car_0 ++ dktX0_car_1
theorem dksX0_car_0 : cX0_car.data.toList.drop 0 = dktX0_car_0 := by decide +kernel
theorem dksX0_car_1 : cX0_car.data.toList.drop 23 = dktX0_car_1 := dk_seg dksX0_car_0 23 rfl rfl
theorem dksX0_car_2 : cX0_car.data.toList.drop 46 = dktX0_car_2 := dk_seg dksX0_car_1 23 rfl rfl
theorem dksX0_car_3 : cX0_car.data.toList.drop 70 = dktX0_car_3 := dk_seg dksX0_car_2 24 rfl rfl
theorem dX0_car_0 : decode cX0_car 0 = .ok (.aload_n 0, 1) := dk_42 (dk_at dksX0_car_0 0 rfl rfl)
theorem dX0_car_1 : decode cX0_car 1 = .ok (.iload_n 1, 1) := dk_27 (dk_at dksX0_car_0 1 rfl rfl)
theorem dX0_car_2 : decode cX0_car 2 = .ok (.invokevirtual 127, 3) := dk_182 0 127 (dk_at dksX0_car_0 2 rfl rfl)
theorem dX0_car_5 : decode cX0_car 5 = .ok (.ifCond .eq 15, 3) := dk_153 0 15 (dk_at dksX0_car_0 5 rfl rfl)
theorem dX0_car_8 : decode cX0_car 8 = .ok (.iload_n 2, 1) := dk_28 (dk_at dksX0_car_0 8 rfl rfl)
theorem dX0_car_9 : decode cX0_car 9 = .ok (.i2l, 1) := dk_133 (dk_at dksX0_car_0 9 rfl rfl)
theorem dX0_car_10 : decode cX0_car 10 = .ok (.lconst 0, 1) := dk_9 (dk_at dksX0_car_0 10 rfl rfl)
theorem dX0_car_11 : decode cX0_car 11 = .ok (.ldc2_w 131, 3) := dk_20 0 131 (dk_at dksX0_car_0 11 rfl rfl)
theorem dX0_car_14 : decode cX0_car 14 = .ok (.invokestatic 81, 3) := dk_184 0 81 (dk_at dksX0_car_0 14 rfl rfl)
theorem dX0_car_17 : decode cX0_car 17 = .ok (.ifCond .ne 10, 3) := dk_154 0 10 (dk_at dksX0_car_0 17 rfl rfl)
theorem dX0_car_20 : decode cX0_car 20 = .ok (.aload_n 0, 1) := dk_42 (dk_at dksX0_car_0 20 rfl rfl)
theorem dX0_car_21 : decode cX0_car 21 = .ok (.bipush (-2), 2) := dk_16 254 (dk_at dksX0_car_0 21 rfl rfl)
theorem dX0_car_23 : decode cX0_car 23 = .ok (.invokevirtual 73, 3) := dk_182 0 73 (dk_at dksX0_car_1 0 rfl rfl)
theorem dX0_car_26 : decode cX0_car 26 = .ok (.ireturn, 1) := dk_172 (dk_at dksX0_car_1 3 rfl rfl)
theorem dX0_car_27 : decode cX0_car 27 = .ok (.aload_n 0, 1) := dk_42 (dk_at dksX0_car_1 4 rfl rfl)
theorem dX0_car_28 : decode cX0_car 28 = .ok (.getfield 10, 3) := dk_180 0 10 (dk_at dksX0_car_1 5 rfl rfl)
theorem dX0_car_31 : decode cX0_car 31 = .ok (.getfield 118, 3) := dk_180 0 118 (dk_at dksX0_car_1 8 rfl rfl)
theorem dX0_car_34 : decode cX0_car 34 = .ok (.getfield 124, 3) := dk_180 0 124 (dk_at dksX0_car_1 11 rfl rfl)
theorem dX0_car_37 : decode cX0_car 37 = .ok (.iload_n 1, 1) := dk_27 (dk_at dksX0_car_1 14 rfl rfl)
theorem dX0_car_38 : decode cX0_car 38 = .ok (.invokevirtual 133, 3) := dk_182 0 133 (dk_at dksX0_car_1 15 rfl rfl)
theorem dX0_car_41 : decode cX0_car 41 = .ok (.checkcast 137, 3) := dk_192 0 137 (dk_at dksX0_car_1 18 rfl rfl)
theorem dX0_car_44 : decode cX0_car 44 = .ok (.astore_n 3, 1) := dk_78 (dk_at dksX0_car_1 21 rfl rfl)
theorem dX0_car_45 : decode cX0_car 45 = .ok (.iload_n 2, 1) := dk_28 (dk_at dksX0_car_1 22 rfl rfl)
theorem dX0_car_46 : decode cX0_car 46 = .ok (.ifCond .ne 10, 3) := dk_154 0 10 (dk_at dksX0_car_2 0 rfl rfl)
theorem dX0_car_49 : decode cX0_car 49 = .ok (.aload_n 3, 1) := dk_45 (dk_at dksX0_car_2 3 rfl rfl)
theorem dX0_car_50 : decode cX0_car 50 = .ok (.getfield 139, 3) := dk_180 0 139 (dk_at dksX0_car_2 4 rfl rfl)
theorem dX0_car_53 : decode cX0_car 53 = .ok (.goto 31, 3) := dk_167 0 31 (dk_at dksX0_car_2 7 rfl rfl)
theorem dX0_car_56 : decode cX0_car 56 = .ok (.iload_n 2, 1) := dk_28 (dk_at dksX0_car_2 10 rfl rfl)
theorem dX0_car_57 : decode cX0_car 57 = .ok (.iconst 1, 1) := dk_4 (dk_at dksX0_car_2 11 rfl rfl)
theorem dX0_car_58 : decode cX0_car 58 = .ok (.if_icmp .ne 10, 3) := dk_160 0 10 (dk_at dksX0_car_2 12 rfl rfl)
theorem dX0_car_61 : decode cX0_car 61 = .ok (.aload_n 3, 1) := dk_45 (dk_at dksX0_car_2 15 rfl rfl)
theorem dX0_car_62 : decode cX0_car 62 = .ok (.getfield 142, 3) := dk_180 0 142 (dk_at dksX0_car_2 16 rfl rfl)
theorem dX0_car_65 : decode cX0_car 65 = .ok (.goto 19, 3) := dk_167 0 19 (dk_at dksX0_car_2 19 rfl rfl)
theorem dX0_car_68 : decode cX0_car 68 = .ok (.iload_n 2, 1) := dk_28 (dk_at dksX0_car_2 22 rfl rfl)
theorem dX0_car_69 : decode cX0_car 69 = .ok (.iconst 2, 1) := dk_5 (dk_at dksX0_car_2 23 rfl rfl)
theorem dX0_car_70 : decode cX0_car 70 = .ok (.if_icmp .ne 10, 3) := dk_160 0 10 (dk_at dksX0_car_3 0 rfl rfl)
theorem dX0_car_73 : decode cX0_car 73 = .ok (.aload_n 3, 1) := dk_45 (dk_at dksX0_car_3 3 rfl rfl)
theorem dX0_car_74 : decode cX0_car 74 = .ok (.getfield 145, 3) := dk_180 0 145 (dk_at dksX0_car_3 4 rfl rfl)
theorem dX0_car_77 : decode cX0_car 77 = .ok (.goto 7, 3) := dk_167 0 7 (dk_at dksX0_car_3 7 rfl rfl)
theorem dX0_car_80 : decode cX0_car 80 = .ok (.aload_n 3, 1) := dk_45 (dk_at dksX0_car_3 10 rfl rfl)
theorem dX0_car_81 : decode cX0_car 81 = .ok (.getfield 148, 3) := dk_180 0 148 (dk_at dksX0_car_3 11 rfl rfl)
theorem dX0_car_84 : decode cX0_car 84 = .ok (.ireturn, 1) := dk_172 (dk_at dksX0_car_3 14 rfl rfl)
abbrev cX0_isCar : ByteArray := prog_1_method_9_code
def yX0_isCar : MethodName := ⟨RX0, "isCar", "(I)Z"⟩
def dkwX0_isCar_0 : List UInt8 := [27, 133, 9, 42, 180, 0, 10, 180, 0, 118, 180, 0, 124, 182, 0, 109, 4, 100, 133, 184, 0, 81, 172]
abbrev dktX0_isCar_0 : List UInt8 := dkwX0_isCar_0 ++ []
theorem dksX0_isCar_0 : cX0_isCar.data.toList.drop 0 = dktX0_isCar_0 := by decide +kernel
theorem dX0_isCar_0 : decode cX0_isCar 0 = .ok (.iload_n 1, 1) := dk_27 (dk_at dksX0_isCar_0 0 rfl rfl)
theorem dX0_isCar_1 : decode cX0_isCar 1 = .ok (.i2l, 1) := dk_133 (dk_at dksX0_isCar_0 1 rfl rfl)
theorem dX0_isCar_2 : decode cX0_isCar 2 = .ok (.lconst 0, 1) := dk_9 (dk_at dksX0_isCar_0 2 rfl rfl)
theorem dX0_isCar_3 : decode cX0_isCar 3 = .ok (.aload_n 0, 1) := dk_42 (dk_at dksX0_isCar_0 3 rfl rfl)
theorem dX0_isCar_4 : decode cX0_isCar 4 = .ok (.getfield 10, 3) := dk_180 0 10 (dk_at dksX0_isCar_0 4 rfl rfl)
theorem dX0_isCar_7 : decode cX0_isCar 7 = .ok (.getfield 118, 3) := dk_180 0 118 (dk_at dksX0_isCar_0 7 rfl rfl)
theorem dX0_isCar_10 : decode cX0_isCar 10 = .ok (.getfield 124, 3) := dk_180 0 124 (dk_at dksX0_isCar_0 10 rfl rfl)
theorem dX0_isCar_13 : decode cX0_isCar 13 = .ok (.invokevirtual 109, 3) := dk_182 0 109 (dk_at dksX0_isCar_0 13 rfl rfl)
theorem dX0_isCar_16 : decode cX0_isCar 16 = .ok (.iconst 1, 1) := dk_4 (dk_at dksX0_isCar_0 16 rfl rfl)
theorem dX0_isCar_17 : decode cX0_isCar 17 = .ok (.isub, 1) := dk_100 (dk_at dksX0_isCar_0 17 rfl rfl)
theorem dX0_isCar_18 : decode cX0_isCar 18 = .ok (.i2l, 1) := dk_133 (dk_at dksX0_isCar_0 18 rfl rfl)
theorem dX0_isCar_19 : decode cX0_isCar 19 = .ok (.invokestatic 81, 3) := dk_184 0 81 (dk_at dksX0_isCar_0 19 rfl rfl)
theorem dX0_isCar_22 : decode cX0_isCar 22 = .ok (.ireturn, 1) := dk_172 (dk_at dksX0_isCar_0 22 rfl rfl)
abbrev cX0_trait : ByteArray := prog_1_method_12_code
def yX0_trait : MethodName := ⟨RX0, "trait", "(IZ)I"⟩
def dkwX0_trait_2 : List UInt8 := [180, 0, 118, 89, 180, 0, 156, 4, 27, 120, 130, 181, 0, 156, 29, 172]
abbrev dktX0_trait_2 : List UInt8 := dkwX0_trait_2 ++ []
def dkwX0_trait_1 : List UInt8 := [27, 122, 4, 126, 62, 28, 29, 4, 160, 0, 7, 4, 167, 0, 4, 3, 159, 0, 21, 42, 180, 0, 10]
abbrev dktX0_trait_1 : List UInt8 := dkwX0_trait_1 ++ dktX0_trait_2
def dkwX0_trait_0 : List UInt8 := [27, 184, 0, 153, 154, 0, 10, 42, 16, 254, 182, 0, 73, 172, 42, 180, 0, 10, 180, 0, 118, 180, 0, 156]
abbrev dktX0_trait_0 : List UInt8 := dkwX0_trait_0 ++ dktX0_trait_1
theorem dksX0_trait_0 : cX0_trait.data.toList.drop 0 = dktX0_trait_0 := by decide +kernel
theorem dksX0_trait_1 : cX0_trait.data.toList.drop 24 = dktX0_trait_1 := dk_seg dksX0_trait_0 24 rfl rfl
theorem dksX0_trait_2 : cX0_trait.data.toList.drop 47 = dktX0_trait_2 := dk_seg dksX0_trait_1 23 rfl rfl
theorem dX0_trait_0 : decode cX0_trait 0 = .ok (.iload_n 1, 1) := dk_27 (dk_at dksX0_trait_0 0 rfl rfl)
theorem dX0_trait_1 : decode cX0_trait 1 = .ok (.invokestatic 153, 3) := dk_184 0 153 (dk_at dksX0_trait_0 1 rfl rfl)
theorem dX0_trait_4 : decode cX0_trait 4 = .ok (.ifCond .ne 10, 3) := dk_154 0 10 (dk_at dksX0_trait_0 4 rfl rfl)
theorem dX0_trait_7 : decode cX0_trait 7 = .ok (.aload_n 0, 1) := dk_42 (dk_at dksX0_trait_0 7 rfl rfl)
theorem dX0_trait_8 : decode cX0_trait 8 = .ok (.bipush (-2), 2) := dk_16 254 (dk_at dksX0_trait_0 8 rfl rfl)
theorem dX0_trait_10 : decode cX0_trait 10 = .ok (.invokevirtual 73, 3) := dk_182 0 73 (dk_at dksX0_trait_0 10 rfl rfl)
theorem dX0_trait_13 : decode cX0_trait 13 = .ok (.ireturn, 1) := dk_172 (dk_at dksX0_trait_0 13 rfl rfl)
theorem dX0_trait_14 : decode cX0_trait 14 = .ok (.aload_n 0, 1) := dk_42 (dk_at dksX0_trait_0 14 rfl rfl)
theorem dX0_trait_15 : decode cX0_trait 15 = .ok (.getfield 10, 3) := dk_180 0 10 (dk_at dksX0_trait_0 15 rfl rfl)
theorem dX0_trait_18 : decode cX0_trait 18 = .ok (.getfield 118, 3) := dk_180 0 118 (dk_at dksX0_trait_0 18 rfl rfl)
theorem dX0_trait_21 : decode cX0_trait 21 = .ok (.getfield 156, 3) := dk_180 0 156 (dk_at dksX0_trait_0 21 rfl rfl)
theorem dX0_trait_24 : decode cX0_trait 24 = .ok (.iload_n 1, 1) := dk_27 (dk_at dksX0_trait_1 0 rfl rfl)
theorem dX0_trait_25 : decode cX0_trait 25 = .ok (.ishr, 1) := dk_122 (dk_at dksX0_trait_1 1 rfl rfl)
theorem dX0_trait_26 : decode cX0_trait 26 = .ok (.iconst 1, 1) := dk_4 (dk_at dksX0_trait_1 2 rfl rfl)
theorem dX0_trait_27 : decode cX0_trait 27 = .ok (.iand, 1) := dk_126 (dk_at dksX0_trait_1 3 rfl rfl)
theorem dX0_trait_28 : decode cX0_trait 28 = .ok (.istore_n 3, 1) := dk_62 (dk_at dksX0_trait_1 4 rfl rfl)
theorem dX0_trait_29 : decode cX0_trait 29 = .ok (.iload_n 2, 1) := dk_28 (dk_at dksX0_trait_1 5 rfl rfl)
theorem dX0_trait_30 : decode cX0_trait 30 = .ok (.iload_n 3, 1) := dk_29 (dk_at dksX0_trait_1 6 rfl rfl)
theorem dX0_trait_31 : decode cX0_trait 31 = .ok (.iconst 1, 1) := dk_4 (dk_at dksX0_trait_1 7 rfl rfl)
theorem dX0_trait_32 : decode cX0_trait 32 = .ok (.if_icmp .ne 7, 3) := dk_160 0 7 (dk_at dksX0_trait_1 8 rfl rfl)
theorem dX0_trait_35 : decode cX0_trait 35 = .ok (.iconst 1, 1) := dk_4 (dk_at dksX0_trait_1 11 rfl rfl)
theorem dX0_trait_36 : decode cX0_trait 36 = .ok (.goto 4, 3) := dk_167 0 4 (dk_at dksX0_trait_1 12 rfl rfl)
theorem dX0_trait_39 : decode cX0_trait 39 = .ok (.iconst 0, 1) := dk_3 (dk_at dksX0_trait_1 15 rfl rfl)
theorem dX0_trait_40 : decode cX0_trait 40 = .ok (.if_icmp .eq 21, 3) := dk_159 0 21 (dk_at dksX0_trait_1 16 rfl rfl)
theorem dX0_trait_43 : decode cX0_trait 43 = .ok (.aload_n 0, 1) := dk_42 (dk_at dksX0_trait_1 19 rfl rfl)
theorem dX0_trait_44 : decode cX0_trait 44 = .ok (.getfield 10, 3) := dk_180 0 10 (dk_at dksX0_trait_1 20 rfl rfl)
theorem dX0_trait_47 : decode cX0_trait 47 = .ok (.getfield 118, 3) := dk_180 0 118 (dk_at dksX0_trait_2 0 rfl rfl)
theorem dX0_trait_50 : decode cX0_trait 50 = .ok (.dup, 1) := dk_89 (dk_at dksX0_trait_2 3 rfl rfl)
theorem dX0_trait_51 : decode cX0_trait 51 = .ok (.getfield 156, 3) := dk_180 0 156 (dk_at dksX0_trait_2 4 rfl rfl)
theorem dX0_trait_54 : decode cX0_trait 54 = .ok (.iconst 1, 1) := dk_4 (dk_at dksX0_trait_2 7 rfl rfl)
theorem dX0_trait_55 : decode cX0_trait 55 = .ok (.iload_n 1, 1) := dk_27 (dk_at dksX0_trait_2 8 rfl rfl)
theorem dX0_trait_56 : decode cX0_trait 56 = .ok (.ishl, 1) := dk_120 (dk_at dksX0_trait_2 9 rfl rfl)
theorem dX0_trait_57 : decode cX0_trait 57 = .ok (.ixor, 1) := dk_130 (dk_at dksX0_trait_2 10 rfl rfl)
theorem dX0_trait_58 : decode cX0_trait 58 = .ok (.putfield 156, 3) := dk_181 0 156 (dk_at dksX0_trait_2 11 rfl rfl)
theorem dX0_trait_61 : decode cX0_trait 61 = .ok (.iload_n 3, 1) := dk_29 (dk_at dksX0_trait_2 14 rfl rfl)
theorem dX0_trait_62 : decode cX0_trait 62 = .ok (.ireturn, 1) := dk_172 (dk_at dksX0_trait_2 15 rfl rfl)
abbrev cX0_isTrait : ByteArray := prog_1_method_11_code
def yX0_isTrait : MethodName := ⟨RX0, "isTrait", "(I)Z"⟩
def dkwX0_isTrait_0 : List UInt8 := [26, 133, 9, 20, 0, 151, 184, 0, 81, 172]
abbrev dktX0_isTrait_0 : List UInt8 := dkwX0_isTrait_0 ++ []
theorem dksX0_isTrait_0 : cX0_isTrait.data.toList.drop 0 = dktX0_isTrait_0 := by decide +kernel
theorem dX0_isTrait_0 : decode cX0_isTrait 0 = .ok (.iload_n 0, 1) := dk_26 (dk_at dksX0_isTrait_0 0 rfl rfl)
theorem dX0_isTrait_1 : decode cX0_isTrait 1 = .ok (.i2l, 1) := dk_133 (dk_at dksX0_isTrait_0 1 rfl rfl)
theorem dX0_isTrait_2 : decode cX0_isTrait 2 = .ok (.lconst 0, 1) := dk_9 (dk_at dksX0_isTrait_0 2 rfl rfl)
theorem dX0_isTrait_3 : decode cX0_isTrait 3 = .ok (.ldc2_w 151, 3) := dk_20 0 151 (dk_at dksX0_isTrait_0 3 rfl rfl)
theorem dX0_isTrait_6 : decode cX0_isTrait 6 = .ok (.invokestatic 81, 3) := dk_184 0 81 (dk_at dksX0_isTrait_0 6 rfl rfl)
theorem dX0_isTrait_9 : decode cX0_isTrait 9 = .ok (.ireturn, 1) := dk_172 (dk_at dksX0_isTrait_0 9 rfl rfl)
abbrev cX0_set : ByteArray := prog_1_method_13_code
def yX0_set : MethodName := ⟨RX0, "set", "(II)I"⟩
def dkwX0_set_4 : List UInt8 := [180, 0, 10, 180, 0, 118, 27, 28, 182, 0, 169, 29, 172]
abbrev dktX0_set_4 : List UInt8 := dkwX0_set_4 ++ []
def dkwX0_set_3 : List UInt8 := [154, 0, 10, 42, 16, 253, 182, 0, 73, 172, 42, 180, 0, 10, 180, 0, 118, 27, 182, 0, 167, 62, 42]
abbrev dktX0_set_3 : List UInt8 := dkwX0_set_3 ++ dktX0_set_4
def dkwX0_set_2 : List UInt8 := [20, 0, 161, 167, 0, 17, 27, 5, 160, 0, 9, 20, 0, 163, 167, 0, 6, 20, 0, 165, 184, 0, 81]
abbrev dktX0_set_2 : List UInt8 := dkwX0_set_2 ++ dktX0_set_3
def dkwX0_set_1 : List UInt8 := [160, 0, 7, 10, 167, 0, 4, 9, 27, 154, 0, 9, 20, 0, 159, 167, 0, 28, 27, 4, 160, 0, 9]
abbrev dktX0_set_1 : List UInt8 := dkwX0_set_1 ++ dktX0_set_2
def dkwX0_set_0 : List UInt8 := [27, 133, 9, 20, 0, 131, 184, 0, 81, 154, 0, 10, 42, 16, 254, 182, 0, 73, 172, 28, 133, 27, 6]
abbrev dktX0_set_0 : List UInt8 := dkwX0_set_0 ++ dktX0_set_1
theorem dksX0_set_0 : cX0_set.data.toList.drop 0 = dktX0_set_0 := by decide +kernel
theorem dksX0_set_1 : cX0_set.data.toList.drop 23 = dktX0_set_1 := dk_seg dksX0_set_0 23 rfl rfl
theorem dksX0_set_2 : cX0_set.data.toList.drop 46 = dktX0_set_2 := dk_seg dksX0_set_1 23 rfl rfl
theorem dksX0_set_3 : cX0_set.data.toList.drop 69 = dktX0_set_3 := dk_seg dksX0_set_2 23 rfl rfl
theorem dksX0_set_4 : cX0_set.data.toList.drop 92 = dktX0_set_4 := dk_seg dksX0_set_3 23 rfl rfl
theorem dX0_set_0 : decode cX0_set 0 = .ok (.iload_n 1, 1) := dk_27 (dk_at dksX0_set_0 0 rfl rfl)
theorem dX0_set_1 : decode cX0_set 1 = .ok (.i2l, 1) := dk_133 (dk_at dksX0_set_0 1 rfl rfl)
theorem dX0_set_2 : decode cX0_set 2 = .ok (.lconst 0, 1) := dk_9 (dk_at dksX0_set_0 2 rfl rfl)
theorem dX0_set_3 : decode cX0_set 3 = .ok (.ldc2_w 131, 3) := dk_20 0 131 (dk_at dksX0_set_0 3 rfl rfl)
theorem dX0_set_6 : decode cX0_set 6 = .ok (.invokestatic 81, 3) := dk_184 0 81 (dk_at dksX0_set_0 6 rfl rfl)
theorem dX0_set_9 : decode cX0_set 9 = .ok (.ifCond .ne 10, 3) := dk_154 0 10 (dk_at dksX0_set_0 9 rfl rfl)
theorem dX0_set_12 : decode cX0_set 12 = .ok (.aload_n 0, 1) := dk_42 (dk_at dksX0_set_0 12 rfl rfl)
theorem dX0_set_13 : decode cX0_set 13 = .ok (.bipush (-2), 2) := dk_16 254 (dk_at dksX0_set_0 13 rfl rfl)
theorem dX0_set_15 : decode cX0_set 15 = .ok (.invokevirtual 73, 3) := dk_182 0 73 (dk_at dksX0_set_0 15 rfl rfl)
theorem dX0_set_18 : decode cX0_set 18 = .ok (.ireturn, 1) := dk_172 (dk_at dksX0_set_0 18 rfl rfl)
theorem dX0_set_19 : decode cX0_set 19 = .ok (.iload_n 2, 1) := dk_28 (dk_at dksX0_set_0 19 rfl rfl)
theorem dX0_set_20 : decode cX0_set 20 = .ok (.i2l, 1) := dk_133 (dk_at dksX0_set_0 20 rfl rfl)
theorem dX0_set_21 : decode cX0_set 21 = .ok (.iload_n 1, 1) := dk_27 (dk_at dksX0_set_0 21 rfl rfl)
theorem dX0_set_22 : decode cX0_set 22 = .ok (.iconst 3, 1) := dk_6 (dk_at dksX0_set_0 22 rfl rfl)
theorem dX0_set_23 : decode cX0_set 23 = .ok (.if_icmp .ne 7, 3) := dk_160 0 7 (dk_at dksX0_set_1 0 rfl rfl)
theorem dX0_set_26 : decode cX0_set 26 = .ok (.lconst 1, 1) := dk_10 (dk_at dksX0_set_1 3 rfl rfl)
theorem dX0_set_27 : decode cX0_set 27 = .ok (.goto 4, 3) := dk_167 0 4 (dk_at dksX0_set_1 4 rfl rfl)
theorem dX0_set_30 : decode cX0_set 30 = .ok (.lconst 0, 1) := dk_9 (dk_at dksX0_set_1 7 rfl rfl)
theorem dX0_set_31 : decode cX0_set 31 = .ok (.iload_n 1, 1) := dk_27 (dk_at dksX0_set_1 8 rfl rfl)
theorem dX0_set_32 : decode cX0_set 32 = .ok (.ifCond .ne 9, 3) := dk_154 0 9 (dk_at dksX0_set_1 9 rfl rfl)
theorem dX0_set_35 : decode cX0_set 35 = .ok (.ldc2_w 159, 3) := dk_20 0 159 (dk_at dksX0_set_1 12 rfl rfl)
theorem dX0_set_38 : decode cX0_set 38 = .ok (.goto 28, 3) := dk_167 0 28 (dk_at dksX0_set_1 15 rfl rfl)
theorem dX0_set_41 : decode cX0_set 41 = .ok (.iload_n 1, 1) := dk_27 (dk_at dksX0_set_1 18 rfl rfl)
theorem dX0_set_42 : decode cX0_set 42 = .ok (.iconst 1, 1) := dk_4 (dk_at dksX0_set_1 19 rfl rfl)
theorem dX0_set_43 : decode cX0_set 43 = .ok (.if_icmp .ne 9, 3) := dk_160 0 9 (dk_at dksX0_set_1 20 rfl rfl)
theorem dX0_set_46 : decode cX0_set 46 = .ok (.ldc2_w 161, 3) := dk_20 0 161 (dk_at dksX0_set_2 0 rfl rfl)
theorem dX0_set_49 : decode cX0_set 49 = .ok (.goto 17, 3) := dk_167 0 17 (dk_at dksX0_set_2 3 rfl rfl)
theorem dX0_set_52 : decode cX0_set 52 = .ok (.iload_n 1, 1) := dk_27 (dk_at dksX0_set_2 6 rfl rfl)
theorem dX0_set_53 : decode cX0_set 53 = .ok (.iconst 2, 1) := dk_5 (dk_at dksX0_set_2 7 rfl rfl)
theorem dX0_set_54 : decode cX0_set 54 = .ok (.if_icmp .ne 9, 3) := dk_160 0 9 (dk_at dksX0_set_2 8 rfl rfl)
theorem dX0_set_57 : decode cX0_set 57 = .ok (.ldc2_w 163, 3) := dk_20 0 163 (dk_at dksX0_set_2 11 rfl rfl)
theorem dX0_set_60 : decode cX0_set 60 = .ok (.goto 6, 3) := dk_167 0 6 (dk_at dksX0_set_2 14 rfl rfl)
theorem dX0_set_63 : decode cX0_set 63 = .ok (.ldc2_w 165, 3) := dk_20 0 165 (dk_at dksX0_set_2 17 rfl rfl)
theorem dX0_set_66 : decode cX0_set 66 = .ok (.invokestatic 81, 3) := dk_184 0 81 (dk_at dksX0_set_2 20 rfl rfl)
theorem dX0_set_69 : decode cX0_set 69 = .ok (.ifCond .ne 10, 3) := dk_154 0 10 (dk_at dksX0_set_3 0 rfl rfl)
theorem dX0_set_72 : decode cX0_set 72 = .ok (.aload_n 0, 1) := dk_42 (dk_at dksX0_set_3 3 rfl rfl)
theorem dX0_set_73 : decode cX0_set 73 = .ok (.bipush (-3), 2) := dk_16 253 (dk_at dksX0_set_3 4 rfl rfl)
theorem dX0_set_75 : decode cX0_set 75 = .ok (.invokevirtual 73, 3) := dk_182 0 73 (dk_at dksX0_set_3 6 rfl rfl)
theorem dX0_set_78 : decode cX0_set 78 = .ok (.ireturn, 1) := dk_172 (dk_at dksX0_set_3 9 rfl rfl)
theorem dX0_set_79 : decode cX0_set 79 = .ok (.aload_n 0, 1) := dk_42 (dk_at dksX0_set_3 10 rfl rfl)
theorem dX0_set_80 : decode cX0_set 80 = .ok (.getfield 10, 3) := dk_180 0 10 (dk_at dksX0_set_3 11 rfl rfl)
theorem dX0_set_83 : decode cX0_set 83 = .ok (.getfield 118, 3) := dk_180 0 118 (dk_at dksX0_set_3 14 rfl rfl)
theorem dX0_set_86 : decode cX0_set 86 = .ok (.iload_n 1, 1) := dk_27 (dk_at dksX0_set_3 17 rfl rfl)
theorem dX0_set_87 : decode cX0_set 87 = .ok (.invokevirtual 167, 3) := dk_182 0 167 (dk_at dksX0_set_3 18 rfl rfl)
theorem dX0_set_90 : decode cX0_set 90 = .ok (.istore_n 3, 1) := dk_62 (dk_at dksX0_set_3 21 rfl rfl)
theorem dX0_set_91 : decode cX0_set 91 = .ok (.aload_n 0, 1) := dk_42 (dk_at dksX0_set_3 22 rfl rfl)
theorem dX0_set_92 : decode cX0_set 92 = .ok (.getfield 10, 3) := dk_180 0 10 (dk_at dksX0_set_4 0 rfl rfl)
theorem dX0_set_95 : decode cX0_set 95 = .ok (.getfield 118, 3) := dk_180 0 118 (dk_at dksX0_set_4 3 rfl rfl)
theorem dX0_set_98 : decode cX0_set 98 = .ok (.iload_n 1, 1) := dk_27 (dk_at dksX0_set_4 6 rfl rfl)
theorem dX0_set_99 : decode cX0_set 99 = .ok (.iload_n 2, 1) := dk_28 (dk_at dksX0_set_4 7 rfl rfl)
theorem dX0_set_100 : decode cX0_set 100 = .ok (.invokevirtual 169, 3) := dk_182 0 169 (dk_at dksX0_set_4 8 rfl rfl)
theorem dX0_set_103 : decode cX0_set 103 = .ok (.iload_n 3, 1) := dk_29 (dk_at dksX0_set_4 11 rfl rfl)
theorem dX0_set_104 : decode cX0_set 104 = .ok (.ireturn, 1) := dk_172 (dk_at dksX0_set_4 12 rfl rfl)
abbrev cX0_chance : ByteArray := prog_1_method_15_code
def yX0_chance : MethodName := ⟨RX0, "chance", "(I)I"⟩
def dkwX0_chance_1 : List UInt8 := [182, 0, 192, 167, 0, 9, 42, 16, 254, 182, 0, 73, 172]
abbrev dktX0_chance_1 : List UInt8 := dkwX0_chance_1 ++ []
def dkwX0_chance_0 : List UInt8 := [42, 27, 182, 0, 127, 153, 0, 25, 42, 42, 180, 0, 35, 42, 180, 0, 10, 180, 0, 118, 182, 0, 188, 27]
abbrev dktX0_chance_0 : List UInt8 := dkwX0_chance_0 ++ dktX0_chance_1
theorem dksX0_chance_0 : cX0_chance.data.toList.drop 0 = dktX0_chance_0 := by decide +kernel
theorem dksX0_chance_1 : cX0_chance.data.toList.drop 24 = dktX0_chance_1 := dk_seg dksX0_chance_0 24 rfl rfl
theorem dX0_chance_0 : decode cX0_chance 0 = .ok (.aload_n 0, 1) := dk_42 (dk_at dksX0_chance_0 0 rfl rfl)
theorem dX0_chance_1 : decode cX0_chance 1 = .ok (.iload_n 1, 1) := dk_27 (dk_at dksX0_chance_0 1 rfl rfl)
theorem dX0_chance_2 : decode cX0_chance 2 = .ok (.invokevirtual 127, 3) := dk_182 0 127 (dk_at dksX0_chance_0 2 rfl rfl)
theorem dX0_chance_5 : decode cX0_chance 5 = .ok (.ifCond .eq 25, 3) := dk_153 0 25 (dk_at dksX0_chance_0 5 rfl rfl)
theorem dX0_chance_8 : decode cX0_chance 8 = .ok (.aload_n 0, 1) := dk_42 (dk_at dksX0_chance_0 8 rfl rfl)
theorem dX0_chance_9 : decode cX0_chance 9 = .ok (.aload_n 0, 1) := dk_42 (dk_at dksX0_chance_0 9 rfl rfl)
theorem dX0_chance_10 : decode cX0_chance 10 = .ok (.getfield 35, 3) := dk_180 0 35 (dk_at dksX0_chance_0 10 rfl rfl)
theorem dX0_chance_13 : decode cX0_chance 13 = .ok (.aload_n 0, 1) := dk_42 (dk_at dksX0_chance_0 13 rfl rfl)
theorem dX0_chance_14 : decode cX0_chance 14 = .ok (.getfield 10, 3) := dk_180 0 10 (dk_at dksX0_chance_0 14 rfl rfl)
theorem dX0_chance_17 : decode cX0_chance 17 = .ok (.getfield 118, 3) := dk_180 0 118 (dk_at dksX0_chance_0 17 rfl rfl)
theorem dX0_chance_20 : decode cX0_chance 20 = .ok (.invokevirtual 188, 3) := dk_182 0 188 (dk_at dksX0_chance_0 20 rfl rfl)
theorem dX0_chance_23 : decode cX0_chance 23 = .ok (.iload_n 1, 1) := dk_27 (dk_at dksX0_chance_0 23 rfl rfl)
theorem dX0_chance_24 : decode cX0_chance 24 = .ok (.invokevirtual 192, 3) := dk_182 0 192 (dk_at dksX0_chance_1 0 rfl rfl)
theorem dX0_chance_27 : decode cX0_chance 27 = .ok (.goto 9, 3) := dk_167 0 9 (dk_at dksX0_chance_1 3 rfl rfl)
theorem dX0_chance_30 : decode cX0_chance 30 = .ok (.aload_n 0, 1) := dk_42 (dk_at dksX0_chance_1 6 rfl rfl)
theorem dX0_chance_31 : decode cX0_chance 31 = .ok (.bipush (-2), 2) := dk_16 254 (dk_at dksX0_chance_1 7 rfl rfl)
theorem dX0_chance_33 : decode cX0_chance 33 = .ok (.invokevirtual 73, 3) := dk_182 0 73 (dk_at dksX0_chance_1 9 rfl rfl)
theorem dX0_chance_36 : decode cX0_chance 36 = .ok (.ireturn, 1) := dk_172 (dk_at dksX0_chance_1 12 rfl rfl)
abbrev cX0_has : ByteArray := prog_1_method_2_code
def yX0_has : MethodName := ⟨RX0, "has", "(II)Z"⟩
def dkwX0_has_0 : List UInt8 := [26, 27, 122, 4, 126, 4, 160, 0, 7, 4, 167, 0, 4, 3, 172]
abbrev dktX0_has_0 : List UInt8 := dkwX0_has_0 ++ []
theorem dksX0_has_0 : cX0_has.data.toList.drop 0 = dktX0_has_0 := by decide +kernel
theorem dX0_has_0 : decode cX0_has 0 = .ok (.iload_n 0, 1) := dk_26 (dk_at dksX0_has_0 0 rfl rfl)
theorem dX0_has_1 : decode cX0_has 1 = .ok (.iload_n 1, 1) := dk_27 (dk_at dksX0_has_0 1 rfl rfl)
theorem dX0_has_2 : decode cX0_has 2 = .ok (.ishr, 1) := dk_122 (dk_at dksX0_has_0 2 rfl rfl)
theorem dX0_has_3 : decode cX0_has 3 = .ok (.iconst 1, 1) := dk_4 (dk_at dksX0_has_0 3 rfl rfl)
theorem dX0_has_4 : decode cX0_has 4 = .ok (.iand, 1) := dk_126 (dk_at dksX0_has_0 4 rfl rfl)
theorem dX0_has_5 : decode cX0_has 5 = .ok (.iconst 1, 1) := dk_4 (dk_at dksX0_has_0 5 rfl rfl)
theorem dX0_has_6 : decode cX0_has 6 = .ok (.if_icmp .ne 7, 3) := dk_160 0 7 (dk_at dksX0_has_0 6 rfl rfl)
theorem dX0_has_9 : decode cX0_has 9 = .ok (.iconst 1, 1) := dk_4 (dk_at dksX0_has_0 9 rfl rfl)
theorem dX0_has_10 : decode cX0_has 10 = .ok (.goto 4, 3) := dk_167 0 4 (dk_at dksX0_has_0 10 rfl rfl)
theorem dX0_has_13 : decode cX0_has 13 = .ok (.iconst 0, 1) := dk_3 (dk_at dksX0_has_0 13 rfl rfl)
theorem dX0_has_14 : decode cX0_has 14 = .ok (.ireturn, 1) := dk_172 (dk_at dksX0_has_0 14 rfl rfl)
abbrev cX0_chanceOf : ByteArray := prog_1_method_14_code
def yX0_chanceOf : MethodName := ⟨RX0, "chanceOf", "(LFootOut$Walk;I)I"⟩
def dkwX0_chanceOf_2 : List UInt8 := [29, 182, 0, 133, 192, 0, 173, 180, 0, 185, 172, 132, 3, 1, 167, 255, 196, 3, 172]
abbrev dktX0_chanceOf_2 : List UInt8 := dkwX0_chanceOf_2 ++ []
def dkwX0_chanceOf_1 : List UInt8 := [182, 0, 133, 192, 0, 173, 180, 0, 175, 43, 28, 182, 0, 179, 153, 0, 21, 42, 180, 0, 10, 180, 0, 108]
abbrev dktX0_chanceOf_1 : List UInt8 := dkwX0_chanceOf_1 ++ dktX0_chanceOf_2
def dkwX0_chanceOf_0 : List UInt8 := [3, 62, 29, 42, 180, 0, 10, 180, 0, 108, 182, 0, 109, 162, 0, 52, 42, 180, 0, 10, 180, 0, 108, 29]
abbrev dktX0_chanceOf_0 : List UInt8 := dkwX0_chanceOf_0 ++ dktX0_chanceOf_1
theorem dksX0_chanceOf_0 : cX0_chanceOf.data.toList.drop 0 = dktX0_chanceOf_0 := by decide +kernel
theorem dksX0_chanceOf_1 : cX0_chanceOf.data.toList.drop 24 = dktX0_chanceOf_1 := dk_seg dksX0_chanceOf_0 24 rfl rfl
theorem dksX0_chanceOf_2 : cX0_chanceOf.data.toList.drop 48 = dktX0_chanceOf_2 := dk_seg dksX0_chanceOf_1 24 rfl rfl
theorem dX0_chanceOf_0 : decode cX0_chanceOf 0 = .ok (.iconst 0, 1) := dk_3 (dk_at dksX0_chanceOf_0 0 rfl rfl)
theorem dX0_chanceOf_1 : decode cX0_chanceOf 1 = .ok (.istore_n 3, 1) := dk_62 (dk_at dksX0_chanceOf_0 1 rfl rfl)
theorem dX0_chanceOf_2 : decode cX0_chanceOf 2 = .ok (.iload_n 3, 1) := dk_29 (dk_at dksX0_chanceOf_0 2 rfl rfl)
theorem dX0_chanceOf_3 : decode cX0_chanceOf 3 = .ok (.aload_n 0, 1) := dk_42 (dk_at dksX0_chanceOf_0 3 rfl rfl)
theorem dX0_chanceOf_4 : decode cX0_chanceOf 4 = .ok (.getfield 10, 3) := dk_180 0 10 (dk_at dksX0_chanceOf_0 4 rfl rfl)
theorem dX0_chanceOf_7 : decode cX0_chanceOf 7 = .ok (.getfield 108, 3) := dk_180 0 108 (dk_at dksX0_chanceOf_0 7 rfl rfl)
theorem dX0_chanceOf_10 : decode cX0_chanceOf 10 = .ok (.invokevirtual 109, 3) := dk_182 0 109 (dk_at dksX0_chanceOf_0 10 rfl rfl)
theorem dX0_chanceOf_13 : decode cX0_chanceOf 13 = .ok (.if_icmp .ge 52, 3) := dk_162 0 52 (dk_at dksX0_chanceOf_0 13 rfl rfl)
theorem dX0_chanceOf_16 : decode cX0_chanceOf 16 = .ok (.aload_n 0, 1) := dk_42 (dk_at dksX0_chanceOf_0 16 rfl rfl)
theorem dX0_chanceOf_17 : decode cX0_chanceOf 17 = .ok (.getfield 10, 3) := dk_180 0 10 (dk_at dksX0_chanceOf_0 17 rfl rfl)
theorem dX0_chanceOf_20 : decode cX0_chanceOf 20 = .ok (.getfield 108, 3) := dk_180 0 108 (dk_at dksX0_chanceOf_0 20 rfl rfl)
theorem dX0_chanceOf_23 : decode cX0_chanceOf 23 = .ok (.iload_n 3, 1) := dk_29 (dk_at dksX0_chanceOf_0 23 rfl rfl)
theorem dX0_chanceOf_24 : decode cX0_chanceOf 24 = .ok (.invokevirtual 133, 3) := dk_182 0 133 (dk_at dksX0_chanceOf_1 0 rfl rfl)
theorem dX0_chanceOf_27 : decode cX0_chanceOf 27 = .ok (.checkcast 173, 3) := dk_192 0 173 (dk_at dksX0_chanceOf_1 3 rfl rfl)
theorem dX0_chanceOf_30 : decode cX0_chanceOf 30 = .ok (.getfield 175, 3) := dk_180 0 175 (dk_at dksX0_chanceOf_1 6 rfl rfl)
theorem dX0_chanceOf_33 : decode cX0_chanceOf 33 = .ok (.aload_n 1, 1) := dk_43 (dk_at dksX0_chanceOf_1 9 rfl rfl)
theorem dX0_chanceOf_34 : decode cX0_chanceOf 34 = .ok (.iload_n 2, 1) := dk_28 (dk_at dksX0_chanceOf_1 10 rfl rfl)
theorem dX0_chanceOf_35 : decode cX0_chanceOf 35 = .ok (.invokevirtual 179, 3) := dk_182 0 179 (dk_at dksX0_chanceOf_1 11 rfl rfl)
theorem dX0_chanceOf_38 : decode cX0_chanceOf 38 = .ok (.ifCond .eq 21, 3) := dk_153 0 21 (dk_at dksX0_chanceOf_1 14 rfl rfl)
theorem dX0_chanceOf_41 : decode cX0_chanceOf 41 = .ok (.aload_n 0, 1) := dk_42 (dk_at dksX0_chanceOf_1 17 rfl rfl)
theorem dX0_chanceOf_42 : decode cX0_chanceOf 42 = .ok (.getfield 10, 3) := dk_180 0 10 (dk_at dksX0_chanceOf_1 18 rfl rfl)
theorem dX0_chanceOf_45 : decode cX0_chanceOf 45 = .ok (.getfield 108, 3) := dk_180 0 108 (dk_at dksX0_chanceOf_1 21 rfl rfl)
theorem dX0_chanceOf_48 : decode cX0_chanceOf 48 = .ok (.iload_n 3, 1) := dk_29 (dk_at dksX0_chanceOf_2 0 rfl rfl)
theorem dX0_chanceOf_49 : decode cX0_chanceOf 49 = .ok (.invokevirtual 133, 3) := dk_182 0 133 (dk_at dksX0_chanceOf_2 1 rfl rfl)
theorem dX0_chanceOf_52 : decode cX0_chanceOf 52 = .ok (.checkcast 173, 3) := dk_192 0 173 (dk_at dksX0_chanceOf_2 4 rfl rfl)
theorem dX0_chanceOf_55 : decode cX0_chanceOf 55 = .ok (.getfield 185, 3) := dk_180 0 185 (dk_at dksX0_chanceOf_2 7 rfl rfl)
theorem dX0_chanceOf_58 : decode cX0_chanceOf 58 = .ok (.ireturn, 1) := dk_172 (dk_at dksX0_chanceOf_2 10 rfl rfl)
theorem dX0_chanceOf_59 : decode cX0_chanceOf 59 = .ok (.iinc 3 1, 3) := dk_132 3 1 (dk_at dksX0_chanceOf_2 11 rfl rfl)
theorem dX0_chanceOf_62 : decode cX0_chanceOf 62 = .ok (.goto (-60), 3) := dk_167 255 196 (dk_at dksX0_chanceOf_2 14 rfl rfl)
theorem dX0_chanceOf_65 : decode cX0_chanceOf 65 = .ok (.iconst 0, 1) := dk_3 (dk_at dksX0_chanceOf_2 17 rfl rfl)
theorem dX0_chanceOf_66 : decode cX0_chanceOf 66 = .ok (.ireturn, 1) := dk_172 (dk_at dksX0_chanceOf_2 18 rfl rfl)
abbrev cX0_can : ByteArray := prog_1_method_16_code
def yX0_can : MethodName := ⟨RX0, "can", "(I)I"⟩
def dkwX0_can_1 : List UInt8 := [182, 0, 196, 153, 0, 7, 4, 167, 0, 13, 3, 167, 0, 9, 42, 16, 254, 182, 0, 73, 172]
abbrev dktX0_can_1 : List UInt8 := dkwX0_can_1 ++ []
def dkwX0_can_0 : List UInt8 := [42, 27, 182, 0, 127, 153, 0, 32, 42, 180, 0, 35, 42, 180, 0, 10, 180, 0, 118, 182, 0, 188, 27]
abbrev dktX0_can_0 : List UInt8 := dkwX0_can_0 ++ dktX0_can_1
theorem dksX0_can_0 : cX0_can.data.toList.drop 0 = dktX0_can_0 := by decide +kernel
theorem dksX0_can_1 : cX0_can.data.toList.drop 23 = dktX0_can_1 := dk_seg dksX0_can_0 23 rfl rfl
theorem dX0_can_0 : decode cX0_can 0 = .ok (.aload_n 0, 1) := dk_42 (dk_at dksX0_can_0 0 rfl rfl)
theorem dX0_can_1 : decode cX0_can 1 = .ok (.iload_n 1, 1) := dk_27 (dk_at dksX0_can_0 1 rfl rfl)
theorem dX0_can_2 : decode cX0_can 2 = .ok (.invokevirtual 127, 3) := dk_182 0 127 (dk_at dksX0_can_0 2 rfl rfl)
theorem dX0_can_5 : decode cX0_can 5 = .ok (.ifCond .eq 32, 3) := dk_153 0 32 (dk_at dksX0_can_0 5 rfl rfl)
theorem dX0_can_8 : decode cX0_can 8 = .ok (.aload_n 0, 1) := dk_42 (dk_at dksX0_can_0 8 rfl rfl)
theorem dX0_can_9 : decode cX0_can 9 = .ok (.getfield 35, 3) := dk_180 0 35 (dk_at dksX0_can_0 9 rfl rfl)
theorem dX0_can_12 : decode cX0_can 12 = .ok (.aload_n 0, 1) := dk_42 (dk_at dksX0_can_0 12 rfl rfl)
theorem dX0_can_13 : decode cX0_can 13 = .ok (.getfield 10, 3) := dk_180 0 10 (dk_at dksX0_can_0 13 rfl rfl)
theorem dX0_can_16 : decode cX0_can 16 = .ok (.getfield 118, 3) := dk_180 0 118 (dk_at dksX0_can_0 16 rfl rfl)
theorem dX0_can_19 : decode cX0_can 19 = .ok (.invokevirtual 188, 3) := dk_182 0 188 (dk_at dksX0_can_0 19 rfl rfl)
theorem dX0_can_22 : decode cX0_can 22 = .ok (.iload_n 1, 1) := dk_27 (dk_at dksX0_can_0 22 rfl rfl)
theorem dX0_can_23 : decode cX0_can 23 = .ok (.invokevirtual 196, 3) := dk_182 0 196 (dk_at dksX0_can_1 0 rfl rfl)
theorem dX0_can_26 : decode cX0_can 26 = .ok (.ifCond .eq 7, 3) := dk_153 0 7 (dk_at dksX0_can_1 3 rfl rfl)
theorem dX0_can_29 : decode cX0_can 29 = .ok (.iconst 1, 1) := dk_4 (dk_at dksX0_can_1 6 rfl rfl)
theorem dX0_can_30 : decode cX0_can 30 = .ok (.goto 13, 3) := dk_167 0 13 (dk_at dksX0_can_1 7 rfl rfl)
theorem dX0_can_33 : decode cX0_can 33 = .ok (.iconst 0, 1) := dk_3 (dk_at dksX0_can_1 10 rfl rfl)
theorem dX0_can_34 : decode cX0_can 34 = .ok (.goto 9, 3) := dk_167 0 9 (dk_at dksX0_can_1 11 rfl rfl)
theorem dX0_can_37 : decode cX0_can 37 = .ok (.aload_n 0, 1) := dk_42 (dk_at dksX0_can_1 14 rfl rfl)
theorem dX0_can_38 : decode cX0_can 38 = .ok (.bipush (-2), 2) := dk_16 254 (dk_at dksX0_can_1 15 rfl rfl)
theorem dX0_can_40 : decode cX0_can 40 = .ok (.invokevirtual 73, 3) := dk_182 0 73 (dk_at dksX0_can_1 17 rfl rfl)
theorem dX0_can_43 : decode cX0_can 43 = .ok (.ireturn, 1) := dk_172 (dk_at dksX0_can_1 20 rfl rfl)
abbrev cX0_run : ByteArray := prog_1_method_21_code
def yX0_run : MethodName := ⟨RX0, "run", "(II)I"⟩
def dkwX0_run_4 : List UInt8 := [182, 0, 240, 172, 45, 180, 0, 244, 172]
abbrev dktX0_run_4 : List UInt8 := dkwX0_run_4 ++ []
def dkwX0_run_3 : List UInt8 := [45, 180, 0, 218, 172, 45, 180, 0, 221, 172, 45, 180, 0, 234, 172, 45, 180, 0, 237, 172, 42, 45]
abbrev dktX0_run_3 : List UInt8 := dkwX0_run_3 ++ dktX0_run_4
def dkwX0_run_2 : List UInt8 := [170, 0, 0, 0, 0, 0, 0, 62, 0, 0, 0, 0, 0, 0, 0, 4, 0, 0, 0, 36, 0, 0, 0, 41, 0, 0, 0, 46, 0, 0, 0, 51, 0, 0, 0, 56]
abbrev dktX0_run_2 : List UInt8 := dkwX0_run_2 ++ dktX0_run_3
def dkwX0_run_1 : List UInt8 := [182, 0, 230, 78, 28]
abbrev dktX0_run_1 : List UInt8 := dkwX0_run_1 ++ dktX0_run_2
def dkwX0_run_0 : List UInt8 := [28, 133, 9, 20, 0, 228, 184, 0, 81, 154, 0, 10, 42, 16, 254, 182, 0, 73, 172, 42, 27, 16, 99]
abbrev dktX0_run_0 : List UInt8 := dkwX0_run_0 ++ dktX0_run_1
theorem dksX0_run_0 : cX0_run.data.toList.drop 0 = dktX0_run_0 := by decide +kernel
theorem dksX0_run_1 : cX0_run.data.toList.drop 23 = dktX0_run_1 := dk_seg dksX0_run_0 23 rfl rfl
theorem dksX0_run_2 : cX0_run.data.toList.drop 28 = dktX0_run_2 := dk_seg dksX0_run_1 5 rfl rfl
theorem dksX0_run_3 : cX0_run.data.toList.drop 64 = dktX0_run_3 := dk_seg dksX0_run_2 36 rfl rfl
theorem dksX0_run_4 : cX0_run.data.toList.drop 86 = dktX0_run_4 := dk_seg dksX0_run_3 22 rfl rfl
theorem dX0_run_0 : decode cX0_run 0 = .ok (.iload_n 2, 1) := dk_28 (dk_at dksX0_run_0 0 rfl rfl)
theorem dX0_run_1 : decode cX0_run 1 = .ok (.i2l, 1) := dk_133 (dk_at dksX0_run_0 1 rfl rfl)
theorem dX0_run_2 : decode cX0_run 2 = .ok (.lconst 0, 1) := dk_9 (dk_at dksX0_run_0 2 rfl rfl)
theorem dX0_run_3 : decode cX0_run 3 = .ok (.ldc2_w 228, 3) := dk_20 0 228 (dk_at dksX0_run_0 3 rfl rfl)
theorem dX0_run_6 : decode cX0_run 6 = .ok (.invokestatic 81, 3) := dk_184 0 81 (dk_at dksX0_run_0 6 rfl rfl)
theorem dX0_run_9 : decode cX0_run 9 = .ok (.ifCond .ne 10, 3) := dk_154 0 10 (dk_at dksX0_run_0 9 rfl rfl)
theorem dX0_run_12 : decode cX0_run 12 = .ok (.aload_n 0, 1) := dk_42 (dk_at dksX0_run_0 12 rfl rfl)
theorem dX0_run_13 : decode cX0_run 13 = .ok (.bipush (-2), 2) := dk_16 254 (dk_at dksX0_run_0 13 rfl rfl)
theorem dX0_run_15 : decode cX0_run 15 = .ok (.invokevirtual 73, 3) := dk_182 0 73 (dk_at dksX0_run_0 15 rfl rfl)
theorem dX0_run_18 : decode cX0_run 18 = .ok (.ireturn, 1) := dk_172 (dk_at dksX0_run_0 18 rfl rfl)
theorem dX0_run_19 : decode cX0_run 19 = .ok (.aload_n 0, 1) := dk_42 (dk_at dksX0_run_0 19 rfl rfl)
theorem dX0_run_20 : decode cX0_run 20 = .ok (.iload_n 1, 1) := dk_27 (dk_at dksX0_run_0 20 rfl rfl)
theorem dX0_run_21 : decode cX0_run 21 = .ok (.bipush 99, 2) := dk_16 99 (dk_at dksX0_run_0 21 rfl rfl)
theorem dX0_run_23 : decode cX0_run 23 = .ok (.invokevirtual 230, 3) := dk_182 0 230 (dk_at dksX0_run_1 0 rfl rfl)
theorem dX0_run_26 : decode cX0_run 26 = .ok (.astore_n 3, 1) := dk_78 (dk_at dksX0_run_1 3 rfl rfl)
theorem dX0_run_27 : decode cX0_run 27 = .ok (.iload_n 2, 1) := dk_28 (dk_at dksX0_run_1 4 rfl rfl)
theorem dX0_run_28 : decode cX0_run 28 = .ok (.tableswitch 62 0 4 #[36, 41, 46, 51, 56], 36) := by decide +kernel
theorem dX0_run_64 : decode cX0_run 64 = .ok (.aload_n 3, 1) := dk_45 (dk_at dksX0_run_3 0 rfl rfl)
theorem dX0_run_65 : decode cX0_run 65 = .ok (.getfield 218, 3) := dk_180 0 218 (dk_at dksX0_run_3 1 rfl rfl)
theorem dX0_run_68 : decode cX0_run 68 = .ok (.ireturn, 1) := dk_172 (dk_at dksX0_run_3 4 rfl rfl)
theorem dX0_run_69 : decode cX0_run 69 = .ok (.aload_n 3, 1) := dk_45 (dk_at dksX0_run_3 5 rfl rfl)
theorem dX0_run_70 : decode cX0_run 70 = .ok (.getfield 221, 3) := dk_180 0 221 (dk_at dksX0_run_3 6 rfl rfl)
theorem dX0_run_73 : decode cX0_run 73 = .ok (.ireturn, 1) := dk_172 (dk_at dksX0_run_3 9 rfl rfl)
theorem dX0_run_74 : decode cX0_run 74 = .ok (.aload_n 3, 1) := dk_45 (dk_at dksX0_run_3 10 rfl rfl)
theorem dX0_run_75 : decode cX0_run 75 = .ok (.getfield 234, 3) := dk_180 0 234 (dk_at dksX0_run_3 11 rfl rfl)
theorem dX0_run_78 : decode cX0_run 78 = .ok (.ireturn, 1) := dk_172 (dk_at dksX0_run_3 14 rfl rfl)
theorem dX0_run_79 : decode cX0_run 79 = .ok (.aload_n 3, 1) := dk_45 (dk_at dksX0_run_3 15 rfl rfl)
theorem dX0_run_80 : decode cX0_run 80 = .ok (.getfield 237, 3) := dk_180 0 237 (dk_at dksX0_run_3 16 rfl rfl)
theorem dX0_run_83 : decode cX0_run 83 = .ok (.ireturn, 1) := dk_172 (dk_at dksX0_run_3 19 rfl rfl)
theorem dX0_run_84 : decode cX0_run 84 = .ok (.aload_n 0, 1) := dk_42 (dk_at dksX0_run_3 20 rfl rfl)
theorem dX0_run_85 : decode cX0_run 85 = .ok (.aload_n 3, 1) := dk_45 (dk_at dksX0_run_3 21 rfl rfl)
theorem dX0_run_86 : decode cX0_run 86 = .ok (.invokevirtual 240, 3) := dk_182 0 240 (dk_at dksX0_run_4 0 rfl rfl)
theorem dX0_run_89 : decode cX0_run 89 = .ok (.ireturn, 1) := dk_172 (dk_at dksX0_run_4 3 rfl rfl)
theorem dX0_run_90 : decode cX0_run 90 = .ok (.aload_n 3, 1) := dk_45 (dk_at dksX0_run_4 4 rfl rfl)
theorem dX0_run_91 : decode cX0_run 91 = .ok (.getfield 244, 3) := dk_180 0 244 (dk_at dksX0_run_4 5 rfl rfl)
theorem dX0_run_94 : decode cX0_run 94 = .ok (.ireturn, 1) := dk_172 (dk_at dksX0_run_4 8 rfl rfl)
abbrev cX0_runs : ByteArray := prog_1_method_19_code
def yX0_runs : MethodName := ⟨RX0, "runs", "(II)LFootOut$Walk;"⟩
def dkwX0_runs_2 : List UInt8 := [182, 0, 224, 167, 255, 227, 42, 180, 0, 35, 176]
abbrev dktX0_runs_2 : List UInt8 := dkwX0_runs_2 ++ []
def dkwX0_runs_1 : List UInt8 := [180, 0, 218, 154, 0, 25, 42, 180, 0, 35, 180, 0, 221, 28, 162, 0, 14, 42, 42, 180, 0, 35]
abbrev dktX0_runs_1 : List UInt8 := dkwX0_runs_1 ++ dktX0_runs_2
def dkwX0_runs_0 : List UInt8 := [42, 180, 0, 35, 42, 180, 0, 10, 180, 0, 118, 182, 0, 188, 87, 42, 27, 181, 0, 200, 42, 180, 0, 35]
abbrev dktX0_runs_0 : List UInt8 := dkwX0_runs_0 ++ dktX0_runs_1
theorem dksX0_runs_0 : cX0_runs.data.toList.drop 0 = dktX0_runs_0 := by decide +kernel
theorem dksX0_runs_1 : cX0_runs.data.toList.drop 24 = dktX0_runs_1 := dk_seg dksX0_runs_0 24 rfl rfl
theorem dksX0_runs_2 : cX0_runs.data.toList.drop 46 = dktX0_runs_2 := dk_seg dksX0_runs_1 22 rfl rfl
theorem dX0_runs_0 : decode cX0_runs 0 = .ok (.aload_n 0, 1) := dk_42 (dk_at dksX0_runs_0 0 rfl rfl)
theorem dX0_runs_1 : decode cX0_runs 1 = .ok (.getfield 35, 3) := dk_180 0 35 (dk_at dksX0_runs_0 1 rfl rfl)
theorem dX0_runs_4 : decode cX0_runs 4 = .ok (.aload_n 0, 1) := dk_42 (dk_at dksX0_runs_0 4 rfl rfl)
theorem dX0_runs_5 : decode cX0_runs 5 = .ok (.getfield 10, 3) := dk_180 0 10 (dk_at dksX0_runs_0 5 rfl rfl)
theorem dX0_runs_8 : decode cX0_runs 8 = .ok (.getfield 118, 3) := dk_180 0 118 (dk_at dksX0_runs_0 8 rfl rfl)
theorem dX0_runs_11 : decode cX0_runs 11 = .ok (.invokevirtual 188, 3) := dk_182 0 188 (dk_at dksX0_runs_0 11 rfl rfl)
theorem dX0_runs_14 : decode cX0_runs 14 = .ok (.pop, 1) := dk_87 (dk_at dksX0_runs_0 14 rfl rfl)
theorem dX0_runs_15 : decode cX0_runs 15 = .ok (.aload_n 0, 1) := dk_42 (dk_at dksX0_runs_0 15 rfl rfl)
theorem dX0_runs_16 : decode cX0_runs 16 = .ok (.iload_n 1, 1) := dk_27 (dk_at dksX0_runs_0 16 rfl rfl)
theorem dX0_runs_17 : decode cX0_runs 17 = .ok (.putfield 200, 3) := dk_181 0 200 (dk_at dksX0_runs_0 17 rfl rfl)
theorem dX0_runs_20 : decode cX0_runs 20 = .ok (.aload_n 0, 1) := dk_42 (dk_at dksX0_runs_0 20 rfl rfl)
theorem dX0_runs_21 : decode cX0_runs 21 = .ok (.getfield 35, 3) := dk_180 0 35 (dk_at dksX0_runs_0 21 rfl rfl)
theorem dX0_runs_24 : decode cX0_runs 24 = .ok (.getfield 218, 3) := dk_180 0 218 (dk_at dksX0_runs_1 0 rfl rfl)
theorem dX0_runs_27 : decode cX0_runs 27 = .ok (.ifCond .ne 25, 3) := dk_154 0 25 (dk_at dksX0_runs_1 3 rfl rfl)
theorem dX0_runs_30 : decode cX0_runs 30 = .ok (.aload_n 0, 1) := dk_42 (dk_at dksX0_runs_1 6 rfl rfl)
theorem dX0_runs_31 : decode cX0_runs 31 = .ok (.getfield 35, 3) := dk_180 0 35 (dk_at dksX0_runs_1 7 rfl rfl)
theorem dX0_runs_34 : decode cX0_runs 34 = .ok (.getfield 221, 3) := dk_180 0 221 (dk_at dksX0_runs_1 10 rfl rfl)
theorem dX0_runs_37 : decode cX0_runs 37 = .ok (.iload_n 2, 1) := dk_28 (dk_at dksX0_runs_1 13 rfl rfl)
theorem dX0_runs_38 : decode cX0_runs 38 = .ok (.if_icmp .ge 14, 3) := dk_162 0 14 (dk_at dksX0_runs_1 14 rfl rfl)
theorem dX0_runs_41 : decode cX0_runs 41 = .ok (.aload_n 0, 1) := dk_42 (dk_at dksX0_runs_1 17 rfl rfl)
theorem dX0_runs_42 : decode cX0_runs 42 = .ok (.aload_n 0, 1) := dk_42 (dk_at dksX0_runs_1 18 rfl rfl)
theorem dX0_runs_43 : decode cX0_runs 43 = .ok (.getfield 35, 3) := dk_180 0 35 (dk_at dksX0_runs_1 19 rfl rfl)
theorem dX0_runs_46 : decode cX0_runs 46 = .ok (.invokevirtual 224, 3) := dk_182 0 224 (dk_at dksX0_runs_2 0 rfl rfl)
theorem dX0_runs_49 : decode cX0_runs 49 = .ok (.goto (-29), 3) := dk_167 255 227 (dk_at dksX0_runs_2 3 rfl rfl)
theorem dX0_runs_52 : decode cX0_runs 52 = .ok (.aload_n 0, 1) := dk_42 (dk_at dksX0_runs_2 6 rfl rfl)
theorem dX0_runs_53 : decode cX0_runs 53 = .ok (.getfield 35, 3) := dk_180 0 35 (dk_at dksX0_runs_2 7 rfl rfl)
theorem dX0_runs_56 : decode cX0_runs 56 = .ok (.areturn, 1) := dk_176 (dk_at dksX0_runs_2 10 rfl rfl)
abbrev cX0_tick : ByteArray := prog_1_method_18_code
def yX0_tick : MethodName := ⟨RX0, "tick", "(LFootOut$Walk;)V"⟩
def dkwX0_tick_3 : List UInt8 := [79, 132, 2, 1, 167, 255, 184, 43, 182, 0, 215, 177]
abbrev dktX0_tick_3 : List UInt8 := dkwX0_tick_3 ++ []
def dkwX0_tick_2 : List UInt8 := [16, 100, 159, 0, 17, 29, 158, 0, 17, 42, 16, 100, 182, 0, 212, 29, 162, 0, 7, 5, 167, 0, 4, 4]
abbrev dktX0_tick_2 : List UInt8 := dkwX0_tick_2 ++ dktX0_tick_3
def dkwX0_tick_1 : List UInt8 := [182, 0, 196, 153, 0, 12, 42, 43, 28, 182, 0, 192, 167, 0, 4, 3, 62, 43, 180, 0, 209, 28, 29]
abbrev dktX0_tick_1 : List UInt8 := dkwX0_tick_1 ++ dktX0_tick_2
def dkwX0_tick_0 : List UInt8 := [3, 61, 28, 43, 182, 0, 203, 162, 0, 70, 43, 28, 182, 0, 206, 154, 0, 6, 167, 0, 53, 43, 28]
abbrev dktX0_tick_0 : List UInt8 := dkwX0_tick_0 ++ dktX0_tick_1
theorem dksX0_tick_0 : cX0_tick.data.toList.drop 0 = dktX0_tick_0 := by decide +kernel
theorem dksX0_tick_1 : cX0_tick.data.toList.drop 23 = dktX0_tick_1 := dk_seg dksX0_tick_0 23 rfl rfl
theorem dksX0_tick_2 : cX0_tick.data.toList.drop 46 = dktX0_tick_2 := dk_seg dksX0_tick_1 23 rfl rfl
theorem dksX0_tick_3 : cX0_tick.data.toList.drop 70 = dktX0_tick_3 := dk_seg dksX0_tick_2 24 rfl rfl
theorem dX0_tick_0 : decode cX0_tick 0 = .ok (.iconst 0, 1) := dk_3 (dk_at dksX0_tick_0 0 rfl rfl)
theorem dX0_tick_1 : decode cX0_tick 1 = .ok (.istore_n 2, 1) := dk_61 (dk_at dksX0_tick_0 1 rfl rfl)
theorem dX0_tick_2 : decode cX0_tick 2 = .ok (.iload_n 2, 1) := dk_28 (dk_at dksX0_tick_0 2 rfl rfl)
theorem dX0_tick_3 : decode cX0_tick 3 = .ok (.aload_n 1, 1) := dk_43 (dk_at dksX0_tick_0 3 rfl rfl)
theorem dX0_tick_4 : decode cX0_tick 4 = .ok (.invokevirtual 203, 3) := dk_182 0 203 (dk_at dksX0_tick_0 4 rfl rfl)
theorem dX0_tick_7 : decode cX0_tick 7 = .ok (.if_icmp .ge 70, 3) := dk_162 0 70 (dk_at dksX0_tick_0 7 rfl rfl)
theorem dX0_tick_10 : decode cX0_tick 10 = .ok (.aload_n 1, 1) := dk_43 (dk_at dksX0_tick_0 10 rfl rfl)
theorem dX0_tick_11 : decode cX0_tick 11 = .ok (.iload_n 2, 1) := dk_28 (dk_at dksX0_tick_0 11 rfl rfl)
theorem dX0_tick_12 : decode cX0_tick 12 = .ok (.invokevirtual 206, 3) := dk_182 0 206 (dk_at dksX0_tick_0 12 rfl rfl)
theorem dX0_tick_15 : decode cX0_tick 15 = .ok (.ifCond .ne 6, 3) := dk_154 0 6 (dk_at dksX0_tick_0 15 rfl rfl)
theorem dX0_tick_18 : decode cX0_tick 18 = .ok (.goto 53, 3) := dk_167 0 53 (dk_at dksX0_tick_0 18 rfl rfl)
theorem dX0_tick_21 : decode cX0_tick 21 = .ok (.aload_n 1, 1) := dk_43 (dk_at dksX0_tick_0 21 rfl rfl)
theorem dX0_tick_22 : decode cX0_tick 22 = .ok (.iload_n 2, 1) := dk_28 (dk_at dksX0_tick_0 22 rfl rfl)
theorem dX0_tick_23 : decode cX0_tick 23 = .ok (.invokevirtual 196, 3) := dk_182 0 196 (dk_at dksX0_tick_1 0 rfl rfl)
theorem dX0_tick_26 : decode cX0_tick 26 = .ok (.ifCond .eq 12, 3) := dk_153 0 12 (dk_at dksX0_tick_1 3 rfl rfl)
theorem dX0_tick_29 : decode cX0_tick 29 = .ok (.aload_n 0, 1) := dk_42 (dk_at dksX0_tick_1 6 rfl rfl)
theorem dX0_tick_30 : decode cX0_tick 30 = .ok (.aload_n 1, 1) := dk_43 (dk_at dksX0_tick_1 7 rfl rfl)
theorem dX0_tick_31 : decode cX0_tick 31 = .ok (.iload_n 2, 1) := dk_28 (dk_at dksX0_tick_1 8 rfl rfl)
theorem dX0_tick_32 : decode cX0_tick 32 = .ok (.invokevirtual 192, 3) := dk_182 0 192 (dk_at dksX0_tick_1 9 rfl rfl)
theorem dX0_tick_35 : decode cX0_tick 35 = .ok (.goto 4, 3) := dk_167 0 4 (dk_at dksX0_tick_1 12 rfl rfl)
theorem dX0_tick_38 : decode cX0_tick 38 = .ok (.iconst 0, 1) := dk_3 (dk_at dksX0_tick_1 15 rfl rfl)
theorem dX0_tick_39 : decode cX0_tick 39 = .ok (.istore_n 3, 1) := dk_62 (dk_at dksX0_tick_1 16 rfl rfl)
theorem dX0_tick_40 : decode cX0_tick 40 = .ok (.aload_n 1, 1) := dk_43 (dk_at dksX0_tick_1 17 rfl rfl)
theorem dX0_tick_41 : decode cX0_tick 41 = .ok (.getfield 209, 3) := dk_180 0 209 (dk_at dksX0_tick_1 18 rfl rfl)
theorem dX0_tick_44 : decode cX0_tick 44 = .ok (.iload_n 2, 1) := dk_28 (dk_at dksX0_tick_1 21 rfl rfl)
theorem dX0_tick_45 : decode cX0_tick 45 = .ok (.iload_n 3, 1) := dk_29 (dk_at dksX0_tick_1 22 rfl rfl)
theorem dX0_tick_46 : decode cX0_tick 46 = .ok (.bipush 100, 2) := dk_16 100 (dk_at dksX0_tick_2 0 rfl rfl)
theorem dX0_tick_48 : decode cX0_tick 48 = .ok (.if_icmp .eq 17, 3) := dk_159 0 17 (dk_at dksX0_tick_2 2 rfl rfl)
theorem dX0_tick_51 : decode cX0_tick 51 = .ok (.iload_n 3, 1) := dk_29 (dk_at dksX0_tick_2 5 rfl rfl)
theorem dX0_tick_52 : decode cX0_tick 52 = .ok (.ifCond .le 17, 3) := dk_158 0 17 (dk_at dksX0_tick_2 6 rfl rfl)
theorem dX0_tick_55 : decode cX0_tick 55 = .ok (.aload_n 0, 1) := dk_42 (dk_at dksX0_tick_2 9 rfl rfl)
theorem dX0_tick_56 : decode cX0_tick 56 = .ok (.bipush 100, 2) := dk_16 100 (dk_at dksX0_tick_2 10 rfl rfl)
theorem dX0_tick_58 : decode cX0_tick 58 = .ok (.invokevirtual 212, 3) := dk_182 0 212 (dk_at dksX0_tick_2 12 rfl rfl)
theorem dX0_tick_61 : decode cX0_tick 61 = .ok (.iload_n 3, 1) := dk_29 (dk_at dksX0_tick_2 15 rfl rfl)
theorem dX0_tick_62 : decode cX0_tick 62 = .ok (.if_icmp .ge 7, 3) := dk_162 0 7 (dk_at dksX0_tick_2 16 rfl rfl)
theorem dX0_tick_65 : decode cX0_tick 65 = .ok (.iconst 2, 1) := dk_5 (dk_at dksX0_tick_2 19 rfl rfl)
theorem dX0_tick_66 : decode cX0_tick 66 = .ok (.goto 4, 3) := dk_167 0 4 (dk_at dksX0_tick_2 20 rfl rfl)
theorem dX0_tick_69 : decode cX0_tick 69 = .ok (.iconst 1, 1) := dk_4 (dk_at dksX0_tick_2 23 rfl rfl)
theorem dX0_tick_70 : decode cX0_tick 70 = .ok (.iastore, 1) := dk_79 (dk_at dksX0_tick_3 0 rfl rfl)
theorem dX0_tick_71 : decode cX0_tick 71 = .ok (.iinc 2 1, 3) := dk_132 2 1 (dk_at dksX0_tick_3 1 rfl rfl)
theorem dX0_tick_74 : decode cX0_tick 74 = .ok (.goto (-72), 3) := dk_167 255 184 (dk_at dksX0_tick_3 4 rfl rfl)
theorem dX0_tick_77 : decode cX0_tick 77 = .ok (.aload_n 1, 1) := dk_43 (dk_at dksX0_tick_3 7 rfl rfl)
theorem dX0_tick_78 : decode cX0_tick 78 = .ok (.invokevirtual 215, 3) := dk_182 0 215 (dk_at dksX0_tick_3 8 rfl rfl)
theorem dX0_tick_81 : decode cX0_tick 81 = .ok (.return_, 1) := dk_177 (dk_at dksX0_tick_3 11 rfl rfl)
abbrev cX0_draw : ByteArray := prog_1_method_17_code
def yX0_draw : MethodName := ⟨RX0, "draw", "(I)I"⟩
def dkwX0_draw_1 : List UInt8 := [172]
abbrev dktX0_draw_1 : List UInt8 := dkwX0_draw_1 ++ []
def dkwX0_draw_0 : List UInt8 := [42, 18, 199, 42, 180, 0, 200, 104, 17, 48, 57, 96, 181, 0, 200, 42, 180, 0, 200, 16, 16, 124, 27, 112]
abbrev dktX0_draw_0 : List UInt8 := dkwX0_draw_0 ++ dktX0_draw_1
theorem dksX0_draw_0 : cX0_draw.data.toList.drop 0 = dktX0_draw_0 := by decide +kernel
theorem dksX0_draw_1 : cX0_draw.data.toList.drop 24 = dktX0_draw_1 := dk_seg dksX0_draw_0 24 rfl rfl
theorem dX0_draw_0 : decode cX0_draw 0 = .ok (.aload_n 0, 1) := dk_42 (dk_at dksX0_draw_0 0 rfl rfl)
theorem dX0_draw_1 : decode cX0_draw 1 = .ok (.ldc 199, 2) := dk_18 199 (dk_at dksX0_draw_0 1 rfl rfl)
theorem dX0_draw_3 : decode cX0_draw 3 = .ok (.aload_n 0, 1) := dk_42 (dk_at dksX0_draw_0 3 rfl rfl)
theorem dX0_draw_4 : decode cX0_draw 4 = .ok (.getfield 200, 3) := dk_180 0 200 (dk_at dksX0_draw_0 4 rfl rfl)
theorem dX0_draw_7 : decode cX0_draw 7 = .ok (.imul, 1) := dk_104 (dk_at dksX0_draw_0 7 rfl rfl)
theorem dX0_draw_8 : decode cX0_draw 8 = .ok (.sipush 12345, 3) := dk_17 48 57 (dk_at dksX0_draw_0 8 rfl rfl)
theorem dX0_draw_11 : decode cX0_draw 11 = .ok (.iadd, 1) := dk_96 (dk_at dksX0_draw_0 11 rfl rfl)
theorem dX0_draw_12 : decode cX0_draw 12 = .ok (.putfield 200, 3) := dk_181 0 200 (dk_at dksX0_draw_0 12 rfl rfl)
theorem dX0_draw_15 : decode cX0_draw 15 = .ok (.aload_n 0, 1) := dk_42 (dk_at dksX0_draw_0 15 rfl rfl)
theorem dX0_draw_16 : decode cX0_draw 16 = .ok (.getfield 200, 3) := dk_180 0 200 (dk_at dksX0_draw_0 16 rfl rfl)
theorem dX0_draw_19 : decode cX0_draw 19 = .ok (.bipush 16, 2) := dk_16 16 (dk_at dksX0_draw_0 19 rfl rfl)
theorem dX0_draw_21 : decode cX0_draw 21 = .ok (.iushr, 1) := dk_124 (dk_at dksX0_draw_0 21 rfl rfl)
theorem dX0_draw_22 : decode cX0_draw 22 = .ok (.iload_n 1, 1) := dk_27 (dk_at dksX0_draw_0 22 rfl rfl)
theorem dX0_draw_23 : decode cX0_draw 23 = .ok (.irem, 1) := dk_112 (dk_at dksX0_draw_0 23 rfl rfl)
theorem dX0_draw_24 : decode cX0_draw 24 = .ok (.ireturn, 1) := dk_172 (dk_at dksX0_draw_1 0 rfl rfl)
abbrev cX0_stopped : ByteArray := prog_1_method_20_code
def yX0_stopped : MethodName := ⟨RX0, "stopped", "(LFootOut$Walk;)I"⟩
def dkwX0_stopped_1 : List UInt8 := [29, 120, 167, 0, 4, 3, 128, 61, 132, 3, 1, 167, 255, 225, 28, 172]
abbrev dktX0_stopped_1 : List UInt8 := dkwX0_stopped_1 ++ []
def dkwX0_stopped_0 : List UInt8 := [3, 61, 3, 62, 29, 43, 182, 0, 203, 162, 0, 29, 28, 43, 180, 0, 209, 29, 46, 5, 160, 0, 9, 4]
abbrev dktX0_stopped_0 : List UInt8 := dkwX0_stopped_0 ++ dktX0_stopped_1
theorem dksX0_stopped_0 : cX0_stopped.data.toList.drop 0 = dktX0_stopped_0 := by decide +kernel
theorem dksX0_stopped_1 : cX0_stopped.data.toList.drop 24 = dktX0_stopped_1 := dk_seg dksX0_stopped_0 24 rfl rfl
theorem dX0_stopped_0 : decode cX0_stopped 0 = .ok (.iconst 0, 1) := dk_3 (dk_at dksX0_stopped_0 0 rfl rfl)
theorem dX0_stopped_1 : decode cX0_stopped 1 = .ok (.istore_n 2, 1) := dk_61 (dk_at dksX0_stopped_0 1 rfl rfl)
theorem dX0_stopped_2 : decode cX0_stopped 2 = .ok (.iconst 0, 1) := dk_3 (dk_at dksX0_stopped_0 2 rfl rfl)
theorem dX0_stopped_3 : decode cX0_stopped 3 = .ok (.istore_n 3, 1) := dk_62 (dk_at dksX0_stopped_0 3 rfl rfl)
theorem dX0_stopped_4 : decode cX0_stopped 4 = .ok (.iload_n 3, 1) := dk_29 (dk_at dksX0_stopped_0 4 rfl rfl)
theorem dX0_stopped_5 : decode cX0_stopped 5 = .ok (.aload_n 1, 1) := dk_43 (dk_at dksX0_stopped_0 5 rfl rfl)
theorem dX0_stopped_6 : decode cX0_stopped 6 = .ok (.invokevirtual 203, 3) := dk_182 0 203 (dk_at dksX0_stopped_0 6 rfl rfl)
theorem dX0_stopped_9 : decode cX0_stopped 9 = .ok (.if_icmp .ge 29, 3) := dk_162 0 29 (dk_at dksX0_stopped_0 9 rfl rfl)
theorem dX0_stopped_12 : decode cX0_stopped 12 = .ok (.iload_n 2, 1) := dk_28 (dk_at dksX0_stopped_0 12 rfl rfl)
theorem dX0_stopped_13 : decode cX0_stopped 13 = .ok (.aload_n 1, 1) := dk_43 (dk_at dksX0_stopped_0 13 rfl rfl)
theorem dX0_stopped_14 : decode cX0_stopped 14 = .ok (.getfield 209, 3) := dk_180 0 209 (dk_at dksX0_stopped_0 14 rfl rfl)
theorem dX0_stopped_17 : decode cX0_stopped 17 = .ok (.iload_n 3, 1) := dk_29 (dk_at dksX0_stopped_0 17 rfl rfl)
theorem dX0_stopped_18 : decode cX0_stopped 18 = .ok (.iaload, 1) := dk_46 (dk_at dksX0_stopped_0 18 rfl rfl)
theorem dX0_stopped_19 : decode cX0_stopped 19 = .ok (.iconst 2, 1) := dk_5 (dk_at dksX0_stopped_0 19 rfl rfl)
theorem dX0_stopped_20 : decode cX0_stopped 20 = .ok (.if_icmp .ne 9, 3) := dk_160 0 9 (dk_at dksX0_stopped_0 20 rfl rfl)
theorem dX0_stopped_23 : decode cX0_stopped 23 = .ok (.iconst 1, 1) := dk_4 (dk_at dksX0_stopped_0 23 rfl rfl)
theorem dX0_stopped_24 : decode cX0_stopped 24 = .ok (.iload_n 3, 1) := dk_29 (dk_at dksX0_stopped_1 0 rfl rfl)
theorem dX0_stopped_25 : decode cX0_stopped 25 = .ok (.ishl, 1) := dk_120 (dk_at dksX0_stopped_1 1 rfl rfl)
theorem dX0_stopped_26 : decode cX0_stopped 26 = .ok (.goto 4, 3) := dk_167 0 4 (dk_at dksX0_stopped_1 2 rfl rfl)
theorem dX0_stopped_29 : decode cX0_stopped 29 = .ok (.iconst 0, 1) := dk_3 (dk_at dksX0_stopped_1 5 rfl rfl)
theorem dX0_stopped_30 : decode cX0_stopped 30 = .ok (.ior, 1) := dk_128 (dk_at dksX0_stopped_1 6 rfl rfl)
theorem dX0_stopped_31 : decode cX0_stopped 31 = .ok (.istore_n 2, 1) := dk_61 (dk_at dksX0_stopped_1 7 rfl rfl)
theorem dX0_stopped_32 : decode cX0_stopped 32 = .ok (.iinc 3 1, 3) := dk_132 3 1 (dk_at dksX0_stopped_1 8 rfl rfl)
theorem dX0_stopped_35 : decode cX0_stopped 35 = .ok (.goto (-31), 3) := dk_167 255 225 (dk_at dksX0_stopped_1 11 rfl rfl)
theorem dX0_stopped_38 : decode cX0_stopped 38 = .ok (.iload_n 2, 1) := dk_28 (dk_at dksX0_stopped_1 14 rfl rfl)
theorem dX0_stopped_39 : decode cX0_stopped 39 = .ok (.ireturn, 1) := dk_172 (dk_at dksX0_stopped_1 15 rfl rfl)
abbrev cX0_watch : ByteArray := prog_1_method_22_code
def yX0_watch : MethodName := ⟨RX0, "watch", "(IIII)I"⟩
def dkwX0_watch_4 : List UInt8 := [167, 0, 18, 25, 5, 180, 0, 253, 29, 51, 153, 0, 7, 4, 167, 0, 4, 3, 172]
abbrev dktX0_watch_4 : List UInt8 := dkwX0_watch_4 ++ []
def dkwX0_watch_3 : List UInt8 := [25, 5, 180, 0, 251, 29, 46, 167, 0, 34, 21, 4, 5, 160, 0, 13, 25, 5, 180, 0, 209, 29, 46]
abbrev dktX0_watch_3 : List UInt8 := dkwX0_watch_3 ++ dktX0_watch_4
def dkwX0_watch_2 : List UInt8 := [58, 5, 21, 4, 154, 0, 13, 25, 5, 180, 0, 249, 29, 46, 167, 0, 50, 21, 4, 4, 160, 0, 13]
abbrev dktX0_watch_2 : List UInt8 := dkwX0_watch_2 ++ dktX0_watch_3
def dkwX0_watch_1 : List UInt8 := [20, 0, 131, 184, 0, 81, 154, 0, 11, 42, 17, 252, 24, 182, 0, 73, 172, 42, 27, 28, 182, 0, 230]
abbrev dktX0_watch_1 : List UInt8 := dkwX0_watch_1 ++ dktX0_watch_2
def dkwX0_watch_0 : List UInt8 := [42, 29, 182, 0, 127, 153, 0, 28, 28, 133, 9, 20, 0, 247, 184, 0, 81, 153, 0, 16, 21, 4, 133, 9]
abbrev dktX0_watch_0 : List UInt8 := dkwX0_watch_0 ++ dktX0_watch_1
theorem dksX0_watch_0 : cX0_watch.data.toList.drop 0 = dktX0_watch_0 := by decide +kernel
theorem dksX0_watch_1 : cX0_watch.data.toList.drop 24 = dktX0_watch_1 := dk_seg dksX0_watch_0 24 rfl rfl
theorem dksX0_watch_2 : cX0_watch.data.toList.drop 47 = dktX0_watch_2 := dk_seg dksX0_watch_1 23 rfl rfl
theorem dksX0_watch_3 : cX0_watch.data.toList.drop 70 = dktX0_watch_3 := dk_seg dksX0_watch_2 23 rfl rfl
theorem dksX0_watch_4 : cX0_watch.data.toList.drop 93 = dktX0_watch_4 := dk_seg dksX0_watch_3 23 rfl rfl
theorem dX0_watch_0 : decode cX0_watch 0 = .ok (.aload_n 0, 1) := dk_42 (dk_at dksX0_watch_0 0 rfl rfl)
theorem dX0_watch_1 : decode cX0_watch 1 = .ok (.iload_n 3, 1) := dk_29 (dk_at dksX0_watch_0 1 rfl rfl)
theorem dX0_watch_2 : decode cX0_watch 2 = .ok (.invokevirtual 127, 3) := dk_182 0 127 (dk_at dksX0_watch_0 2 rfl rfl)
theorem dX0_watch_5 : decode cX0_watch 5 = .ok (.ifCond .eq 28, 3) := dk_153 0 28 (dk_at dksX0_watch_0 5 rfl rfl)
theorem dX0_watch_8 : decode cX0_watch 8 = .ok (.iload_n 2, 1) := dk_28 (dk_at dksX0_watch_0 8 rfl rfl)
theorem dX0_watch_9 : decode cX0_watch 9 = .ok (.i2l, 1) := dk_133 (dk_at dksX0_watch_0 9 rfl rfl)
theorem dX0_watch_10 : decode cX0_watch 10 = .ok (.lconst 0, 1) := dk_9 (dk_at dksX0_watch_0 10 rfl rfl)
theorem dX0_watch_11 : decode cX0_watch 11 = .ok (.ldc2_w 247, 3) := dk_20 0 247 (dk_at dksX0_watch_0 11 rfl rfl)
theorem dX0_watch_14 : decode cX0_watch 14 = .ok (.invokestatic 81, 3) := dk_184 0 81 (dk_at dksX0_watch_0 14 rfl rfl)
theorem dX0_watch_17 : decode cX0_watch 17 = .ok (.ifCond .eq 16, 3) := dk_153 0 16 (dk_at dksX0_watch_0 17 rfl rfl)
theorem dX0_watch_20 : decode cX0_watch 20 = .ok (.iload 4, 2) := dk_21 4 (dk_at dksX0_watch_0 20 rfl rfl)
theorem dX0_watch_22 : decode cX0_watch 22 = .ok (.i2l, 1) := dk_133 (dk_at dksX0_watch_0 22 rfl rfl)
theorem dX0_watch_23 : decode cX0_watch 23 = .ok (.lconst 0, 1) := dk_9 (dk_at dksX0_watch_0 23 rfl rfl)
theorem dX0_watch_24 : decode cX0_watch 24 = .ok (.ldc2_w 131, 3) := dk_20 0 131 (dk_at dksX0_watch_1 0 rfl rfl)
theorem dX0_watch_27 : decode cX0_watch 27 = .ok (.invokestatic 81, 3) := dk_184 0 81 (dk_at dksX0_watch_1 3 rfl rfl)
theorem dX0_watch_30 : decode cX0_watch 30 = .ok (.ifCond .ne 11, 3) := dk_154 0 11 (dk_at dksX0_watch_1 6 rfl rfl)
theorem dX0_watch_33 : decode cX0_watch 33 = .ok (.aload_n 0, 1) := dk_42 (dk_at dksX0_watch_1 9 rfl rfl)
theorem dX0_watch_34 : decode cX0_watch 34 = .ok (.sipush (-1000), 3) := dk_17 252 24 (dk_at dksX0_watch_1 10 rfl rfl)
theorem dX0_watch_37 : decode cX0_watch 37 = .ok (.invokevirtual 73, 3) := dk_182 0 73 (dk_at dksX0_watch_1 13 rfl rfl)
theorem dX0_watch_40 : decode cX0_watch 40 = .ok (.ireturn, 1) := dk_172 (dk_at dksX0_watch_1 16 rfl rfl)
theorem dX0_watch_41 : decode cX0_watch 41 = .ok (.aload_n 0, 1) := dk_42 (dk_at dksX0_watch_1 17 rfl rfl)
theorem dX0_watch_42 : decode cX0_watch 42 = .ok (.iload_n 1, 1) := dk_27 (dk_at dksX0_watch_1 18 rfl rfl)
theorem dX0_watch_43 : decode cX0_watch 43 = .ok (.iload_n 2, 1) := dk_28 (dk_at dksX0_watch_1 19 rfl rfl)
theorem dX0_watch_44 : decode cX0_watch 44 = .ok (.invokevirtual 230, 3) := dk_182 0 230 (dk_at dksX0_watch_1 20 rfl rfl)
theorem dX0_watch_47 : decode cX0_watch 47 = .ok (.astore 5, 2) := dk_58 5 (dk_at dksX0_watch_2 0 rfl rfl)
theorem dX0_watch_49 : decode cX0_watch 49 = .ok (.iload 4, 2) := dk_21 4 (dk_at dksX0_watch_2 2 rfl rfl)
theorem dX0_watch_51 : decode cX0_watch 51 = .ok (.ifCond .ne 13, 3) := dk_154 0 13 (dk_at dksX0_watch_2 4 rfl rfl)
theorem dX0_watch_54 : decode cX0_watch 54 = .ok (.aload 5, 2) := dk_25 5 (dk_at dksX0_watch_2 7 rfl rfl)
theorem dX0_watch_56 : decode cX0_watch 56 = .ok (.getfield 249, 3) := dk_180 0 249 (dk_at dksX0_watch_2 9 rfl rfl)
theorem dX0_watch_59 : decode cX0_watch 59 = .ok (.iload_n 3, 1) := dk_29 (dk_at dksX0_watch_2 12 rfl rfl)
theorem dX0_watch_60 : decode cX0_watch 60 = .ok (.iaload, 1) := dk_46 (dk_at dksX0_watch_2 13 rfl rfl)
theorem dX0_watch_61 : decode cX0_watch 61 = .ok (.goto 50, 3) := dk_167 0 50 (dk_at dksX0_watch_2 14 rfl rfl)
theorem dX0_watch_64 : decode cX0_watch 64 = .ok (.iload 4, 2) := dk_21 4 (dk_at dksX0_watch_2 17 rfl rfl)
theorem dX0_watch_66 : decode cX0_watch 66 = .ok (.iconst 1, 1) := dk_4 (dk_at dksX0_watch_2 19 rfl rfl)
theorem dX0_watch_67 : decode cX0_watch 67 = .ok (.if_icmp .ne 13, 3) := dk_160 0 13 (dk_at dksX0_watch_2 20 rfl rfl)
theorem dX0_watch_70 : decode cX0_watch 70 = .ok (.aload 5, 2) := dk_25 5 (dk_at dksX0_watch_3 0 rfl rfl)
theorem dX0_watch_72 : decode cX0_watch 72 = .ok (.getfield 251, 3) := dk_180 0 251 (dk_at dksX0_watch_3 2 rfl rfl)
theorem dX0_watch_75 : decode cX0_watch 75 = .ok (.iload_n 3, 1) := dk_29 (dk_at dksX0_watch_3 5 rfl rfl)
theorem dX0_watch_76 : decode cX0_watch 76 = .ok (.iaload, 1) := dk_46 (dk_at dksX0_watch_3 6 rfl rfl)
theorem dX0_watch_77 : decode cX0_watch 77 = .ok (.goto 34, 3) := dk_167 0 34 (dk_at dksX0_watch_3 7 rfl rfl)
theorem dX0_watch_80 : decode cX0_watch 80 = .ok (.iload 4, 2) := dk_21 4 (dk_at dksX0_watch_3 10 rfl rfl)
theorem dX0_watch_82 : decode cX0_watch 82 = .ok (.iconst 2, 1) := dk_5 (dk_at dksX0_watch_3 12 rfl rfl)
theorem dX0_watch_83 : decode cX0_watch 83 = .ok (.if_icmp .ne 13, 3) := dk_160 0 13 (dk_at dksX0_watch_3 13 rfl rfl)
theorem dX0_watch_86 : decode cX0_watch 86 = .ok (.aload 5, 2) := dk_25 5 (dk_at dksX0_watch_3 16 rfl rfl)
theorem dX0_watch_88 : decode cX0_watch 88 = .ok (.getfield 209, 3) := dk_180 0 209 (dk_at dksX0_watch_3 18 rfl rfl)
theorem dX0_watch_91 : decode cX0_watch 91 = .ok (.iload_n 3, 1) := dk_29 (dk_at dksX0_watch_3 21 rfl rfl)
theorem dX0_watch_92 : decode cX0_watch 92 = .ok (.iaload, 1) := dk_46 (dk_at dksX0_watch_3 22 rfl rfl)
theorem dX0_watch_93 : decode cX0_watch 93 = .ok (.goto 18, 3) := dk_167 0 18 (dk_at dksX0_watch_4 0 rfl rfl)
theorem dX0_watch_96 : decode cX0_watch 96 = .ok (.aload 5, 2) := dk_25 5 (dk_at dksX0_watch_4 3 rfl rfl)
theorem dX0_watch_98 : decode cX0_watch 98 = .ok (.getfield 253, 3) := dk_180 0 253 (dk_at dksX0_watch_4 5 rfl rfl)
theorem dX0_watch_101 : decode cX0_watch 101 = .ok (.iload_n 3, 1) := dk_29 (dk_at dksX0_watch_4 8 rfl rfl)
theorem dX0_watch_102 : decode cX0_watch 102 = .ok (.baload, 1) := dk_51 (dk_at dksX0_watch_4 9 rfl rfl)
theorem dX0_watch_103 : decode cX0_watch 103 = .ok (.ifCond .eq 7, 3) := dk_153 0 7 (dk_at dksX0_watch_4 10 rfl rfl)
theorem dX0_watch_106 : decode cX0_watch 106 = .ok (.iconst 1, 1) := dk_4 (dk_at dksX0_watch_4 13 rfl rfl)
theorem dX0_watch_107 : decode cX0_watch 107 = .ok (.goto 4, 3) := dk_167 0 4 (dk_at dksX0_watch_4 14 rfl rfl)
theorem dX0_watch_110 : decode cX0_watch 110 = .ok (.iconst 0, 1) := dk_3 (dk_at dksX0_watch_4 17 rfl rfl)
theorem dX0_watch_111 : decode cX0_watch 111 = .ok (.ireturn, 1) := dk_172 (dk_at dksX0_watch_4 18 rfl rfl)
abbrev cX0_stands : ByteArray := prog_1_method_23_code
def yX0_stands : MethodName := ⟨RX0, "stands", "(II)I"⟩
def dkwX0_stands_2 : List UInt8 := [172]
abbrev dktX0_stands_2 : List UInt8 := dkwX0_stands_2 ++ []
def dkwX0_stands_1 : List UInt8 := [182, 0, 230, 78, 16, 10, 45, 180, 1, 1, 104, 45, 180, 1, 4, 158, 0, 7, 4, 167, 0, 4, 3, 96]
abbrev dktX0_stands_1 : List UInt8 := dkwX0_stands_1 ++ dktX0_stands_2
def dkwX0_stands_0 : List UInt8 := [28, 133, 9, 20, 0, 247, 184, 0, 81, 154, 0, 10, 42, 16, 253, 182, 0, 73, 172, 42, 27, 28]
abbrev dktX0_stands_0 : List UInt8 := dkwX0_stands_0 ++ dktX0_stands_1
theorem dksX0_stands_0 : cX0_stands.data.toList.drop 0 = dktX0_stands_0 := by decide +kernel
theorem dksX0_stands_1 : cX0_stands.data.toList.drop 22 = dktX0_stands_1 := dk_seg dksX0_stands_0 22 rfl rfl
theorem dksX0_stands_2 : cX0_stands.data.toList.drop 46 = dktX0_stands_2 := dk_seg dksX0_stands_1 24 rfl rfl
theorem dX0_stands_0 : decode cX0_stands 0 = .ok (.iload_n 2, 1) := dk_28 (dk_at dksX0_stands_0 0 rfl rfl)
theorem dX0_stands_1 : decode cX0_stands 1 = .ok (.i2l, 1) := dk_133 (dk_at dksX0_stands_0 1 rfl rfl)
theorem dX0_stands_2 : decode cX0_stands 2 = .ok (.lconst 0, 1) := dk_9 (dk_at dksX0_stands_0 2 rfl rfl)
theorem dX0_stands_3 : decode cX0_stands 3 = .ok (.ldc2_w 247, 3) := dk_20 0 247 (dk_at dksX0_stands_0 3 rfl rfl)
theorem dX0_stands_6 : decode cX0_stands 6 = .ok (.invokestatic 81, 3) := dk_184 0 81 (dk_at dksX0_stands_0 6 rfl rfl)
theorem dX0_stands_9 : decode cX0_stands 9 = .ok (.ifCond .ne 10, 3) := dk_154 0 10 (dk_at dksX0_stands_0 9 rfl rfl)
theorem dX0_stands_12 : decode cX0_stands 12 = .ok (.aload_n 0, 1) := dk_42 (dk_at dksX0_stands_0 12 rfl rfl)
theorem dX0_stands_13 : decode cX0_stands 13 = .ok (.bipush (-3), 2) := dk_16 253 (dk_at dksX0_stands_0 13 rfl rfl)
theorem dX0_stands_15 : decode cX0_stands 15 = .ok (.invokevirtual 73, 3) := dk_182 0 73 (dk_at dksX0_stands_0 15 rfl rfl)
theorem dX0_stands_18 : decode cX0_stands 18 = .ok (.ireturn, 1) := dk_172 (dk_at dksX0_stands_0 18 rfl rfl)
theorem dX0_stands_19 : decode cX0_stands 19 = .ok (.aload_n 0, 1) := dk_42 (dk_at dksX0_stands_0 19 rfl rfl)
theorem dX0_stands_20 : decode cX0_stands 20 = .ok (.iload_n 1, 1) := dk_27 (dk_at dksX0_stands_0 20 rfl rfl)
theorem dX0_stands_21 : decode cX0_stands 21 = .ok (.iload_n 2, 1) := dk_28 (dk_at dksX0_stands_0 21 rfl rfl)
theorem dX0_stands_22 : decode cX0_stands 22 = .ok (.invokevirtual 230, 3) := dk_182 0 230 (dk_at dksX0_stands_1 0 rfl rfl)
theorem dX0_stands_25 : decode cX0_stands 25 = .ok (.astore_n 3, 1) := dk_78 (dk_at dksX0_stands_1 3 rfl rfl)
theorem dX0_stands_26 : decode cX0_stands 26 = .ok (.bipush 10, 2) := dk_16 10 (dk_at dksX0_stands_1 4 rfl rfl)
theorem dX0_stands_28 : decode cX0_stands 28 = .ok (.aload_n 3, 1) := dk_45 (dk_at dksX0_stands_1 6 rfl rfl)
theorem dX0_stands_29 : decode cX0_stands 29 = .ok (.getfield 257, 3) := dk_180 1 1 (dk_at dksX0_stands_1 7 rfl rfl)
theorem dX0_stands_32 : decode cX0_stands 32 = .ok (.imul, 1) := dk_104 (dk_at dksX0_stands_1 10 rfl rfl)
theorem dX0_stands_33 : decode cX0_stands 33 = .ok (.aload_n 3, 1) := dk_45 (dk_at dksX0_stands_1 11 rfl rfl)
theorem dX0_stands_34 : decode cX0_stands 34 = .ok (.getfield 260, 3) := dk_180 1 4 (dk_at dksX0_stands_1 12 rfl rfl)
theorem dX0_stands_37 : decode cX0_stands 37 = .ok (.ifCond .le 7, 3) := dk_158 0 7 (dk_at dksX0_stands_1 15 rfl rfl)
theorem dX0_stands_40 : decode cX0_stands 40 = .ok (.iconst 1, 1) := dk_4 (dk_at dksX0_stands_1 18 rfl rfl)
theorem dX0_stands_41 : decode cX0_stands 41 = .ok (.goto 4, 3) := dk_167 0 4 (dk_at dksX0_stands_1 19 rfl rfl)
theorem dX0_stands_44 : decode cX0_stands 44 = .ok (.iconst 0, 1) := dk_3 (dk_at dksX0_stands_1 22 rfl rfl)
theorem dX0_stands_45 : decode cX0_stands 45 = .ok (.iadd, 1) := dk_96 (dk_at dksX0_stands_1 23 rfl rfl)
theorem dX0_stands_46 : decode cX0_stands 46 = .ok (.ireturn, 1) := dk_172 (dk_at dksX0_stands_2 0 rfl rfl)
abbrev cX0_tries : ByteArray := prog_1_method_24_code
def yX0_tries : MethodName := ⟨RX0, "tries", "(III)I"⟩
def dkwX0_tries_4 : List UInt8 := [180, 0, 218, 29, 160, 0, 7, 4, 167, 0, 4, 3, 96, 54, 4, 132, 5, 1, 167, 255, 190, 21, 4, 172]
abbrev dktX0_tries_4 : List UInt8 := dkwX0_tries_4 ++ []
def dkwX0_tries_3 : List UInt8 := [25, 6, 180, 0, 234, 167, 0, 30, 29, 8, 160, 0, 11, 25, 6, 180, 0, 221, 167, 0, 17, 25, 6]
abbrev dktX0_tries_3 : List UInt8 := dkwX0_tries_3 ++ dktX0_tries_4
def dkwX0_tries_2 : List UInt8 := [28, 162, 0, 66, 42, 27, 21, 5, 96, 16, 99, 182, 0, 230, 58, 6, 21, 4, 29, 7, 160, 0, 11]
abbrev dktX0_tries_2 : List UInt8 := dkwX0_tries_2 ++ dktX0_tries_3
def dkwX0_tries_1 : List UInt8 := [20, 0, 163, 184, 0, 81, 154, 0, 10, 42, 16, 253, 182, 0, 73, 172, 3, 54, 4, 3, 54, 5, 21, 5]
abbrev dktX0_tries_1 : List UInt8 := dkwX0_tries_1 ++ dktX0_tries_2
def dkwX0_tries_0 : List UInt8 := [29, 133, 10, 20, 0, 228, 184, 0, 81, 154, 0, 10, 42, 16, 254, 182, 0, 73, 172, 28, 133, 10]
abbrev dktX0_tries_0 : List UInt8 := dkwX0_tries_0 ++ dktX0_tries_1
theorem dksX0_tries_0 : cX0_tries.data.toList.drop 0 = dktX0_tries_0 := by decide +kernel
theorem dksX0_tries_1 : cX0_tries.data.toList.drop 22 = dktX0_tries_1 := dk_seg dksX0_tries_0 22 rfl rfl
theorem dksX0_tries_2 : cX0_tries.data.toList.drop 46 = dktX0_tries_2 := dk_seg dksX0_tries_1 24 rfl rfl
theorem dksX0_tries_3 : cX0_tries.data.toList.drop 69 = dktX0_tries_3 := dk_seg dksX0_tries_2 23 rfl rfl
theorem dksX0_tries_4 : cX0_tries.data.toList.drop 92 = dktX0_tries_4 := dk_seg dksX0_tries_3 23 rfl rfl
theorem dX0_tries_0 : decode cX0_tries 0 = .ok (.iload_n 3, 1) := dk_29 (dk_at dksX0_tries_0 0 rfl rfl)
theorem dX0_tries_1 : decode cX0_tries 1 = .ok (.i2l, 1) := dk_133 (dk_at dksX0_tries_0 1 rfl rfl)
theorem dX0_tries_2 : decode cX0_tries 2 = .ok (.lconst 1, 1) := dk_10 (dk_at dksX0_tries_0 2 rfl rfl)
theorem dX0_tries_3 : decode cX0_tries 3 = .ok (.ldc2_w 228, 3) := dk_20 0 228 (dk_at dksX0_tries_0 3 rfl rfl)
theorem dX0_tries_6 : decode cX0_tries 6 = .ok (.invokestatic 81, 3) := dk_184 0 81 (dk_at dksX0_tries_0 6 rfl rfl)
theorem dX0_tries_9 : decode cX0_tries 9 = .ok (.ifCond .ne 10, 3) := dk_154 0 10 (dk_at dksX0_tries_0 9 rfl rfl)
theorem dX0_tries_12 : decode cX0_tries 12 = .ok (.aload_n 0, 1) := dk_42 (dk_at dksX0_tries_0 12 rfl rfl)
theorem dX0_tries_13 : decode cX0_tries 13 = .ok (.bipush (-2), 2) := dk_16 254 (dk_at dksX0_tries_0 13 rfl rfl)
theorem dX0_tries_15 : decode cX0_tries 15 = .ok (.invokevirtual 73, 3) := dk_182 0 73 (dk_at dksX0_tries_0 15 rfl rfl)
theorem dX0_tries_18 : decode cX0_tries 18 = .ok (.ireturn, 1) := dk_172 (dk_at dksX0_tries_0 18 rfl rfl)
theorem dX0_tries_19 : decode cX0_tries 19 = .ok (.iload_n 2, 1) := dk_28 (dk_at dksX0_tries_0 19 rfl rfl)
theorem dX0_tries_20 : decode cX0_tries 20 = .ok (.i2l, 1) := dk_133 (dk_at dksX0_tries_0 20 rfl rfl)
theorem dX0_tries_21 : decode cX0_tries 21 = .ok (.lconst 1, 1) := dk_10 (dk_at dksX0_tries_0 21 rfl rfl)
theorem dX0_tries_22 : decode cX0_tries 22 = .ok (.ldc2_w 163, 3) := dk_20 0 163 (dk_at dksX0_tries_1 0 rfl rfl)
theorem dX0_tries_25 : decode cX0_tries 25 = .ok (.invokestatic 81, 3) := dk_184 0 81 (dk_at dksX0_tries_1 3 rfl rfl)
theorem dX0_tries_28 : decode cX0_tries 28 = .ok (.ifCond .ne 10, 3) := dk_154 0 10 (dk_at dksX0_tries_1 6 rfl rfl)
theorem dX0_tries_31 : decode cX0_tries 31 = .ok (.aload_n 0, 1) := dk_42 (dk_at dksX0_tries_1 9 rfl rfl)
theorem dX0_tries_32 : decode cX0_tries 32 = .ok (.bipush (-3), 2) := dk_16 253 (dk_at dksX0_tries_1 10 rfl rfl)
theorem dX0_tries_34 : decode cX0_tries 34 = .ok (.invokevirtual 73, 3) := dk_182 0 73 (dk_at dksX0_tries_1 12 rfl rfl)
theorem dX0_tries_37 : decode cX0_tries 37 = .ok (.ireturn, 1) := dk_172 (dk_at dksX0_tries_1 15 rfl rfl)
theorem dX0_tries_38 : decode cX0_tries 38 = .ok (.iconst 0, 1) := dk_3 (dk_at dksX0_tries_1 16 rfl rfl)
theorem dX0_tries_39 : decode cX0_tries 39 = .ok (.istore 4, 2) := dk_54 4 (dk_at dksX0_tries_1 17 rfl rfl)
theorem dX0_tries_41 : decode cX0_tries 41 = .ok (.iconst 0, 1) := dk_3 (dk_at dksX0_tries_1 19 rfl rfl)
theorem dX0_tries_42 : decode cX0_tries 42 = .ok (.istore 5, 2) := dk_54 5 (dk_at dksX0_tries_1 20 rfl rfl)
theorem dX0_tries_44 : decode cX0_tries 44 = .ok (.iload 5, 2) := dk_21 5 (dk_at dksX0_tries_1 22 rfl rfl)
theorem dX0_tries_46 : decode cX0_tries 46 = .ok (.iload_n 2, 1) := dk_28 (dk_at dksX0_tries_2 0 rfl rfl)
theorem dX0_tries_47 : decode cX0_tries 47 = .ok (.if_icmp .ge 66, 3) := dk_162 0 66 (dk_at dksX0_tries_2 1 rfl rfl)
theorem dX0_tries_50 : decode cX0_tries 50 = .ok (.aload_n 0, 1) := dk_42 (dk_at dksX0_tries_2 4 rfl rfl)
theorem dX0_tries_51 : decode cX0_tries 51 = .ok (.iload_n 1, 1) := dk_27 (dk_at dksX0_tries_2 5 rfl rfl)
theorem dX0_tries_52 : decode cX0_tries 52 = .ok (.iload 5, 2) := dk_21 5 (dk_at dksX0_tries_2 6 rfl rfl)
theorem dX0_tries_54 : decode cX0_tries 54 = .ok (.iadd, 1) := dk_96 (dk_at dksX0_tries_2 8 rfl rfl)
theorem dX0_tries_55 : decode cX0_tries 55 = .ok (.bipush 99, 2) := dk_16 99 (dk_at dksX0_tries_2 9 rfl rfl)
theorem dX0_tries_57 : decode cX0_tries 57 = .ok (.invokevirtual 230, 3) := dk_182 0 230 (dk_at dksX0_tries_2 11 rfl rfl)
theorem dX0_tries_60 : decode cX0_tries 60 = .ok (.astore 6, 2) := dk_58 6 (dk_at dksX0_tries_2 14 rfl rfl)
theorem dX0_tries_62 : decode cX0_tries 62 = .ok (.iload 4, 2) := dk_21 4 (dk_at dksX0_tries_2 16 rfl rfl)
theorem dX0_tries_64 : decode cX0_tries 64 = .ok (.iload_n 3, 1) := dk_29 (dk_at dksX0_tries_2 18 rfl rfl)
theorem dX0_tries_65 : decode cX0_tries 65 = .ok (.iconst 4, 1) := dk_7 (dk_at dksX0_tries_2 19 rfl rfl)
theorem dX0_tries_66 : decode cX0_tries 66 = .ok (.if_icmp .ne 11, 3) := dk_160 0 11 (dk_at dksX0_tries_2 20 rfl rfl)
theorem dX0_tries_69 : decode cX0_tries 69 = .ok (.aload 6, 2) := dk_25 6 (dk_at dksX0_tries_3 0 rfl rfl)
theorem dX0_tries_71 : decode cX0_tries 71 = .ok (.getfield 234, 3) := dk_180 0 234 (dk_at dksX0_tries_3 2 rfl rfl)
theorem dX0_tries_74 : decode cX0_tries 74 = .ok (.goto 30, 3) := dk_167 0 30 (dk_at dksX0_tries_3 5 rfl rfl)
theorem dX0_tries_77 : decode cX0_tries 77 = .ok (.iload_n 3, 1) := dk_29 (dk_at dksX0_tries_3 8 rfl rfl)
theorem dX0_tries_78 : decode cX0_tries 78 = .ok (.iconst 5, 1) := dk_8 (dk_at dksX0_tries_3 9 rfl rfl)
theorem dX0_tries_79 : decode cX0_tries 79 = .ok (.if_icmp .ne 11, 3) := dk_160 0 11 (dk_at dksX0_tries_3 10 rfl rfl)
theorem dX0_tries_82 : decode cX0_tries 82 = .ok (.aload 6, 2) := dk_25 6 (dk_at dksX0_tries_3 13 rfl rfl)
theorem dX0_tries_84 : decode cX0_tries 84 = .ok (.getfield 221, 3) := dk_180 0 221 (dk_at dksX0_tries_3 15 rfl rfl)
theorem dX0_tries_87 : decode cX0_tries 87 = .ok (.goto 17, 3) := dk_167 0 17 (dk_at dksX0_tries_3 18 rfl rfl)
theorem dX0_tries_90 : decode cX0_tries 90 = .ok (.aload 6, 2) := dk_25 6 (dk_at dksX0_tries_3 21 rfl rfl)
theorem dX0_tries_92 : decode cX0_tries 92 = .ok (.getfield 218, 3) := dk_180 0 218 (dk_at dksX0_tries_4 0 rfl rfl)
theorem dX0_tries_95 : decode cX0_tries 95 = .ok (.iload_n 3, 1) := dk_29 (dk_at dksX0_tries_4 3 rfl rfl)
theorem dX0_tries_96 : decode cX0_tries 96 = .ok (.if_icmp .ne 7, 3) := dk_160 0 7 (dk_at dksX0_tries_4 4 rfl rfl)
theorem dX0_tries_99 : decode cX0_tries 99 = .ok (.iconst 1, 1) := dk_4 (dk_at dksX0_tries_4 7 rfl rfl)
theorem dX0_tries_100 : decode cX0_tries 100 = .ok (.goto 4, 3) := dk_167 0 4 (dk_at dksX0_tries_4 8 rfl rfl)
theorem dX0_tries_103 : decode cX0_tries 103 = .ok (.iconst 0, 1) := dk_3 (dk_at dksX0_tries_4 11 rfl rfl)
theorem dX0_tries_104 : decode cX0_tries 104 = .ok (.iadd, 1) := dk_96 (dk_at dksX0_tries_4 12 rfl rfl)
theorem dX0_tries_105 : decode cX0_tries 105 = .ok (.istore 4, 2) := dk_54 4 (dk_at dksX0_tries_4 13 rfl rfl)
theorem dX0_tries_107 : decode cX0_tries 107 = .ok (.iinc 5 1, 3) := dk_132 5 1 (dk_at dksX0_tries_4 15 rfl rfl)
theorem dX0_tries_110 : decode cX0_tries 110 = .ok (.goto (-66), 3) := dk_167 255 190 (dk_at dksX0_tries_4 18 rfl rfl)
theorem dX0_tries_113 : decode cX0_tries 113 = .ok (.iload 4, 2) := dk_21 4 (dk_at dksX0_tries_4 21 rfl rfl)
theorem dX0_tries_115 : decode cX0_tries 115 = .ok (.ireturn, 1) := dk_172 (dk_at dksX0_tries_4 23 rfl rfl)
abbrev cX0_odds : ByteArray := prog_1_method_29_code
def yX0_odds : MethodName := ⟨RX0, "odds", "(I)J"⟩
def dkwX0_odds_1 : List UInt8 := [180, 0, 10, 180, 0, 118, 182, 1, 20, 42, 180, 0, 47, 27, 47, 173]
abbrev dktX0_odds_1 : List UInt8 := dkwX0_odds_1 ++ []
def dkwX0_odds_0 : List UInt8 := [27, 133, 9, 20, 0, 228, 184, 0, 81, 154, 0, 11, 42, 16, 254, 182, 0, 73, 133, 173, 42, 42]
abbrev dktX0_odds_0 : List UInt8 := dkwX0_odds_0 ++ dktX0_odds_1
theorem dksX0_odds_0 : cX0_odds.data.toList.drop 0 = dktX0_odds_0 := by decide +kernel
theorem dksX0_odds_1 : cX0_odds.data.toList.drop 22 = dktX0_odds_1 := dk_seg dksX0_odds_0 22 rfl rfl
theorem dX0_odds_0 : decode cX0_odds 0 = .ok (.iload_n 1, 1) := dk_27 (dk_at dksX0_odds_0 0 rfl rfl)
theorem dX0_odds_1 : decode cX0_odds 1 = .ok (.i2l, 1) := dk_133 (dk_at dksX0_odds_0 1 rfl rfl)
theorem dX0_odds_2 : decode cX0_odds 2 = .ok (.lconst 0, 1) := dk_9 (dk_at dksX0_odds_0 2 rfl rfl)
theorem dX0_odds_3 : decode cX0_odds 3 = .ok (.ldc2_w 228, 3) := dk_20 0 228 (dk_at dksX0_odds_0 3 rfl rfl)
theorem dX0_odds_6 : decode cX0_odds 6 = .ok (.invokestatic 81, 3) := dk_184 0 81 (dk_at dksX0_odds_0 6 rfl rfl)
theorem dX0_odds_9 : decode cX0_odds 9 = .ok (.ifCond .ne 11, 3) := dk_154 0 11 (dk_at dksX0_odds_0 9 rfl rfl)
theorem dX0_odds_12 : decode cX0_odds 12 = .ok (.aload_n 0, 1) := dk_42 (dk_at dksX0_odds_0 12 rfl rfl)
theorem dX0_odds_13 : decode cX0_odds 13 = .ok (.bipush (-2), 2) := dk_16 254 (dk_at dksX0_odds_0 13 rfl rfl)
theorem dX0_odds_15 : decode cX0_odds 15 = .ok (.invokevirtual 73, 3) := dk_182 0 73 (dk_at dksX0_odds_0 15 rfl rfl)
theorem dX0_odds_18 : decode cX0_odds 18 = .ok (.i2l, 1) := dk_133 (dk_at dksX0_odds_0 18 rfl rfl)
theorem dX0_odds_19 : decode cX0_odds 19 = .ok (.lreturn, 1) := dk_173 (dk_at dksX0_odds_0 19 rfl rfl)
theorem dX0_odds_20 : decode cX0_odds 20 = .ok (.aload_n 0, 1) := dk_42 (dk_at dksX0_odds_0 20 rfl rfl)
theorem dX0_odds_21 : decode cX0_odds 21 = .ok (.aload_n 0, 1) := dk_42 (dk_at dksX0_odds_0 21 rfl rfl)
theorem dX0_odds_22 : decode cX0_odds 22 = .ok (.getfield 10, 3) := dk_180 0 10 (dk_at dksX0_odds_1 0 rfl rfl)
theorem dX0_odds_25 : decode cX0_odds 25 = .ok (.getfield 118, 3) := dk_180 0 118 (dk_at dksX0_odds_1 3 rfl rfl)
theorem dX0_odds_28 : decode cX0_odds 28 = .ok (.invokevirtual 276, 3) := dk_182 1 20 (dk_at dksX0_odds_1 6 rfl rfl)
theorem dX0_odds_31 : decode cX0_odds 31 = .ok (.aload_n 0, 1) := dk_42 (dk_at dksX0_odds_1 9 rfl rfl)
theorem dX0_odds_32 : decode cX0_odds 32 = .ok (.getfield 47, 3) := dk_180 0 47 (dk_at dksX0_odds_1 10 rfl rfl)
theorem dX0_odds_35 : decode cX0_odds 35 = .ok (.iload_n 1, 1) := dk_27 (dk_at dksX0_odds_1 13 rfl rfl)
theorem dX0_odds_36 : decode cX0_odds 36 = .ok (.laload, 1) := dk_47 (dk_at dksX0_odds_1 14 rfl rfl)
theorem dX0_odds_37 : decode cX0_odds 37 = .ok (.lreturn, 1) := dk_173 (dk_at dksX0_odds_1 15 rfl rfl)
abbrev cX0_gathers : ByteArray := prog_1_method_28_code
def yX0_gathers : MethodName := ⟨RX0, "gathers", "(LFootOut$Scene;)V"⟩
def dkwX0_gathers_3 : List UInt8 := [177]
abbrev dktX0_gathers_3 : List UInt8 := dkwX0_gathers_3 ++ []
def dkwX0_gathers_2 : List UInt8 := [132, 2, 1, 167, 255, 233, 42, 180, 0, 43, 3, 50, 43, 182, 0, 188, 87, 42, 3, 3, 10, 182, 1, 12]
abbrev dktX0_gathers_2 : List UInt8 := dkwX0_gathers_2 ++ dktX0_gathers_3
def dkwX0_gathers_1 : List UInt8 := [3, 61, 28, 16, 8, 162, 0, 23, 42, 180, 0, 51, 28, 9, 80, 42, 180, 0, 54, 28, 9, 80]
abbrev dktX0_gathers_1 : List UInt8 := dkwX0_gathers_1 ++ dktX0_gathers_2
def dkwX0_gathers_0 : List UInt8 := [3, 61, 28, 42, 180, 0, 47, 190, 162, 0, 16, 42, 180, 0, 47, 28, 9, 80, 132, 2, 1, 167, 255, 237]
abbrev dktX0_gathers_0 : List UInt8 := dkwX0_gathers_0 ++ dktX0_gathers_1
theorem dksX0_gathers_0 : cX0_gathers.data.toList.drop 0 = dktX0_gathers_0 := by decide +kernel
theorem dksX0_gathers_1 : cX0_gathers.data.toList.drop 24 = dktX0_gathers_1 := dk_seg dksX0_gathers_0 24 rfl rfl
theorem dksX0_gathers_2 : cX0_gathers.data.toList.drop 46 = dktX0_gathers_2 := dk_seg dksX0_gathers_1 22 rfl rfl
theorem dksX0_gathers_3 : cX0_gathers.data.toList.drop 70 = dktX0_gathers_3 := dk_seg dksX0_gathers_2 24 rfl rfl
theorem dX0_gathers_0 : decode cX0_gathers 0 = .ok (.iconst 0, 1) := dk_3 (dk_at dksX0_gathers_0 0 rfl rfl)
theorem dX0_gathers_1 : decode cX0_gathers 1 = .ok (.istore_n 2, 1) := dk_61 (dk_at dksX0_gathers_0 1 rfl rfl)
theorem dX0_gathers_2 : decode cX0_gathers 2 = .ok (.iload_n 2, 1) := dk_28 (dk_at dksX0_gathers_0 2 rfl rfl)
theorem dX0_gathers_3 : decode cX0_gathers 3 = .ok (.aload_n 0, 1) := dk_42 (dk_at dksX0_gathers_0 3 rfl rfl)
theorem dX0_gathers_4 : decode cX0_gathers 4 = .ok (.getfield 47, 3) := dk_180 0 47 (dk_at dksX0_gathers_0 4 rfl rfl)
theorem dX0_gathers_7 : decode cX0_gathers 7 = .ok (.arraylength, 1) := dk_190 (dk_at dksX0_gathers_0 7 rfl rfl)
theorem dX0_gathers_8 : decode cX0_gathers 8 = .ok (.if_icmp .ge 16, 3) := dk_162 0 16 (dk_at dksX0_gathers_0 8 rfl rfl)
theorem dX0_gathers_11 : decode cX0_gathers 11 = .ok (.aload_n 0, 1) := dk_42 (dk_at dksX0_gathers_0 11 rfl rfl)
theorem dX0_gathers_12 : decode cX0_gathers 12 = .ok (.getfield 47, 3) := dk_180 0 47 (dk_at dksX0_gathers_0 12 rfl rfl)
theorem dX0_gathers_15 : decode cX0_gathers 15 = .ok (.iload_n 2, 1) := dk_28 (dk_at dksX0_gathers_0 15 rfl rfl)
theorem dX0_gathers_16 : decode cX0_gathers 16 = .ok (.lconst 0, 1) := dk_9 (dk_at dksX0_gathers_0 16 rfl rfl)
theorem dX0_gathers_17 : decode cX0_gathers 17 = .ok (.lastore, 1) := dk_80 (dk_at dksX0_gathers_0 17 rfl rfl)
theorem dX0_gathers_18 : decode cX0_gathers 18 = .ok (.iinc 2 1, 3) := dk_132 2 1 (dk_at dksX0_gathers_0 18 rfl rfl)
theorem dX0_gathers_21 : decode cX0_gathers 21 = .ok (.goto (-19), 3) := dk_167 255 237 (dk_at dksX0_gathers_0 21 rfl rfl)
theorem dX0_gathers_24 : decode cX0_gathers 24 = .ok (.iconst 0, 1) := dk_3 (dk_at dksX0_gathers_1 0 rfl rfl)
theorem dX0_gathers_25 : decode cX0_gathers 25 = .ok (.istore_n 2, 1) := dk_61 (dk_at dksX0_gathers_1 1 rfl rfl)
theorem dX0_gathers_26 : decode cX0_gathers 26 = .ok (.iload_n 2, 1) := dk_28 (dk_at dksX0_gathers_1 2 rfl rfl)
theorem dX0_gathers_27 : decode cX0_gathers 27 = .ok (.bipush 8, 2) := dk_16 8 (dk_at dksX0_gathers_1 3 rfl rfl)
theorem dX0_gathers_29 : decode cX0_gathers 29 = .ok (.if_icmp .ge 23, 3) := dk_162 0 23 (dk_at dksX0_gathers_1 5 rfl rfl)
theorem dX0_gathers_32 : decode cX0_gathers 32 = .ok (.aload_n 0, 1) := dk_42 (dk_at dksX0_gathers_1 8 rfl rfl)
theorem dX0_gathers_33 : decode cX0_gathers 33 = .ok (.getfield 51, 3) := dk_180 0 51 (dk_at dksX0_gathers_1 9 rfl rfl)
theorem dX0_gathers_36 : decode cX0_gathers 36 = .ok (.iload_n 2, 1) := dk_28 (dk_at dksX0_gathers_1 12 rfl rfl)
theorem dX0_gathers_37 : decode cX0_gathers 37 = .ok (.lconst 0, 1) := dk_9 (dk_at dksX0_gathers_1 13 rfl rfl)
theorem dX0_gathers_38 : decode cX0_gathers 38 = .ok (.lastore, 1) := dk_80 (dk_at dksX0_gathers_1 14 rfl rfl)
theorem dX0_gathers_39 : decode cX0_gathers 39 = .ok (.aload_n 0, 1) := dk_42 (dk_at dksX0_gathers_1 15 rfl rfl)
theorem dX0_gathers_40 : decode cX0_gathers 40 = .ok (.getfield 54, 3) := dk_180 0 54 (dk_at dksX0_gathers_1 16 rfl rfl)
theorem dX0_gathers_43 : decode cX0_gathers 43 = .ok (.iload_n 2, 1) := dk_28 (dk_at dksX0_gathers_1 19 rfl rfl)
theorem dX0_gathers_44 : decode cX0_gathers 44 = .ok (.lconst 0, 1) := dk_9 (dk_at dksX0_gathers_1 20 rfl rfl)
theorem dX0_gathers_45 : decode cX0_gathers 45 = .ok (.lastore, 1) := dk_80 (dk_at dksX0_gathers_1 21 rfl rfl)
theorem dX0_gathers_46 : decode cX0_gathers 46 = .ok (.iinc 2 1, 3) := dk_132 2 1 (dk_at dksX0_gathers_2 0 rfl rfl)
theorem dX0_gathers_49 : decode cX0_gathers 49 = .ok (.goto (-23), 3) := dk_167 255 233 (dk_at dksX0_gathers_2 3 rfl rfl)
theorem dX0_gathers_52 : decode cX0_gathers 52 = .ok (.aload_n 0, 1) := dk_42 (dk_at dksX0_gathers_2 6 rfl rfl)
theorem dX0_gathers_53 : decode cX0_gathers 53 = .ok (.getfield 43, 3) := dk_180 0 43 (dk_at dksX0_gathers_2 7 rfl rfl)
theorem dX0_gathers_56 : decode cX0_gathers 56 = .ok (.iconst 0, 1) := dk_3 (dk_at dksX0_gathers_2 10 rfl rfl)
theorem dX0_gathers_57 : decode cX0_gathers 57 = .ok (.aaload, 1) := dk_50 (dk_at dksX0_gathers_2 11 rfl rfl)
theorem dX0_gathers_58 : decode cX0_gathers 58 = .ok (.aload_n 1, 1) := dk_43 (dk_at dksX0_gathers_2 12 rfl rfl)
theorem dX0_gathers_59 : decode cX0_gathers 59 = .ok (.invokevirtual 188, 3) := dk_182 0 188 (dk_at dksX0_gathers_2 13 rfl rfl)
theorem dX0_gathers_62 : decode cX0_gathers 62 = .ok (.pop, 1) := dk_87 (dk_at dksX0_gathers_2 16 rfl rfl)
theorem dX0_gathers_63 : decode cX0_gathers 63 = .ok (.aload_n 0, 1) := dk_42 (dk_at dksX0_gathers_2 17 rfl rfl)
theorem dX0_gathers_64 : decode cX0_gathers 64 = .ok (.iconst 0, 1) := dk_3 (dk_at dksX0_gathers_2 18 rfl rfl)
theorem dX0_gathers_65 : decode cX0_gathers 65 = .ok (.iconst 0, 1) := dk_3 (dk_at dksX0_gathers_2 19 rfl rfl)
theorem dX0_gathers_66 : decode cX0_gathers 66 = .ok (.lconst 1, 1) := dk_10 (dk_at dksX0_gathers_2 20 rfl rfl)
theorem dX0_gathers_67 : decode cX0_gathers 67 = .ok (.invokevirtual 268, 3) := dk_182 1 12 (dk_at dksX0_gathers_2 21 rfl rfl)
theorem dX0_gathers_70 : decode cX0_gathers 70 = .ok (.return_, 1) := dk_177 (dk_at dksX0_gathers_3 0 rfl rfl)
abbrev cX0_forks : ByteArray := prog_1_method_27_code
def yX0_forks : MethodName := ⟨RX0, "forks", "(IIJ)V"⟩
def dkwX0_forks_8 : List UInt8 := [182, 0, 215, 167, 255, 84, 42, 25, 5, 22, 6, 182, 1, 16, 177]
abbrev dktX0_forks_8 : List UInt8 := dkwX0_forks_8 ++ []
def dkwX0_forks_7 : List UInt8 := [167, 0, 11, 22, 6, 20, 1, 7, 105, 55, 6, 132, 9, 1, 167, 255, 107, 3, 54, 8, 25, 5]
abbrev dktX0_forks_7 : List UInt8 := dkwX0_forks_7 ++ dktX0_forks_8
def dkwX0_forks_6 : List UInt8 := [4, 96, 22, 6, 21, 10, 133, 105, 182, 1, 12, 22, 6, 16, 100, 21, 10, 100, 133, 105, 55, 6]
abbrev dktX0_forks_6 : List UInt8 := dkwX0_forks_6 ++ dktX0_forks_7
def dkwX0_forks_5 : List UInt8 := [182, 1, 9, 42, 180, 0, 43, 27, 4, 96, 50, 180, 0, 209, 21, 9, 5, 79, 42, 27, 4, 96, 21, 9]
abbrev dktX0_forks_5 : List UInt8 := dkwX0_forks_5 ++ dktX0_forks_6
def dkwX0_forks_4 : List UInt8 := [21, 10, 158, 0, 69, 21, 10, 16, 100, 162, 0, 62, 42, 180, 0, 43, 27, 4, 96, 50, 25, 5]
abbrev dktX0_forks_4 : List UInt8 := dkwX0_forks_4 ++ dktX0_forks_5
def dkwX0_forks_3 : List UInt8 := [3, 54, 10, 25, 5, 180, 0, 209, 21, 9, 21, 10, 16, 100, 160, 0, 7, 5, 167, 0, 4, 4, 79]
abbrev dktX0_forks_3 : List UInt8 := dkwX0_forks_3 ++ dktX0_forks_4
def dkwX0_forks_2 : List UInt8 := [167, 0, 126, 25, 5, 21, 9, 182, 0, 196, 153, 0, 14, 42, 25, 5, 21, 9, 182, 0, 192, 167, 0, 4]
abbrev dktX0_forks_2 : List UInt8 := dkwX0_forks_2 ++ dktX0_forks_3
def dkwX0_forks_1 : List UInt8 := [54, 9, 21, 9, 25, 5, 182, 0, 203, 162, 0, 145, 25, 5, 21, 9, 182, 0, 206, 154, 0, 6]
abbrev dktX0_forks_1 : List UInt8 := dkwX0_forks_1 ++ dktX0_forks_2
def dkwX0_forks_0 : List UInt8 := [42, 180, 0, 43, 27, 50, 58, 5, 33, 55, 6, 28, 54, 8, 25, 5, 180, 0, 218, 154, 0, 170, 21, 8]
abbrev dktX0_forks_0 : List UInt8 := dkwX0_forks_0 ++ dktX0_forks_1
theorem dksX0_forks_0 : cX0_forks.data.toList.drop 0 = dktX0_forks_0 := by decide +kernel
theorem dksX0_forks_1 : cX0_forks.data.toList.drop 24 = dktX0_forks_1 := dk_seg dksX0_forks_0 24 rfl rfl
theorem dksX0_forks_2 : cX0_forks.data.toList.drop 46 = dktX0_forks_2 := dk_seg dksX0_forks_1 22 rfl rfl
theorem dksX0_forks_3 : cX0_forks.data.toList.drop 70 = dktX0_forks_3 := dk_seg dksX0_forks_2 24 rfl rfl
theorem dksX0_forks_4 : cX0_forks.data.toList.drop 93 = dktX0_forks_4 := dk_seg dksX0_forks_3 23 rfl rfl
theorem dksX0_forks_5 : cX0_forks.data.toList.drop 115 = dktX0_forks_5 := dk_seg dksX0_forks_4 22 rfl rfl
theorem dksX0_forks_6 : cX0_forks.data.toList.drop 139 = dktX0_forks_6 := dk_seg dksX0_forks_5 24 rfl rfl
theorem dksX0_forks_7 : cX0_forks.data.toList.drop 161 = dktX0_forks_7 := dk_seg dksX0_forks_6 22 rfl rfl
theorem dksX0_forks_8 : cX0_forks.data.toList.drop 183 = dktX0_forks_8 := dk_seg dksX0_forks_7 22 rfl rfl
theorem dX0_forks_0 : decode cX0_forks 0 = .ok (.aload_n 0, 1) := dk_42 (dk_at dksX0_forks_0 0 rfl rfl)
theorem dX0_forks_1 : decode cX0_forks 1 = .ok (.getfield 43, 3) := dk_180 0 43 (dk_at dksX0_forks_0 1 rfl rfl)
theorem dX0_forks_4 : decode cX0_forks 4 = .ok (.iload_n 1, 1) := dk_27 (dk_at dksX0_forks_0 4 rfl rfl)
theorem dX0_forks_5 : decode cX0_forks 5 = .ok (.aaload, 1) := dk_50 (dk_at dksX0_forks_0 5 rfl rfl)
theorem dX0_forks_6 : decode cX0_forks 6 = .ok (.astore 5, 2) := dk_58 5 (dk_at dksX0_forks_0 6 rfl rfl)
theorem dX0_forks_8 : decode cX0_forks 8 = .ok (.lload_n 3, 1) := dk_33 (dk_at dksX0_forks_0 8 rfl rfl)
theorem dX0_forks_9 : decode cX0_forks 9 = .ok (.lstore 6, 2) := dk_55 6 (dk_at dksX0_forks_0 9 rfl rfl)
theorem dX0_forks_11 : decode cX0_forks 11 = .ok (.iload_n 2, 1) := dk_28 (dk_at dksX0_forks_0 11 rfl rfl)
theorem dX0_forks_12 : decode cX0_forks 12 = .ok (.istore 8, 2) := dk_54 8 (dk_at dksX0_forks_0 12 rfl rfl)
theorem dX0_forks_14 : decode cX0_forks 14 = .ok (.aload 5, 2) := dk_25 5 (dk_at dksX0_forks_0 14 rfl rfl)
theorem dX0_forks_16 : decode cX0_forks 16 = .ok (.getfield 218, 3) := dk_180 0 218 (dk_at dksX0_forks_0 16 rfl rfl)
theorem dX0_forks_19 : decode cX0_forks 19 = .ok (.ifCond .ne 170, 3) := dk_154 0 170 (dk_at dksX0_forks_0 19 rfl rfl)
theorem dX0_forks_22 : decode cX0_forks 22 = .ok (.iload 8, 2) := dk_21 8 (dk_at dksX0_forks_0 22 rfl rfl)
theorem dX0_forks_24 : decode cX0_forks 24 = .ok (.istore 9, 2) := dk_54 9 (dk_at dksX0_forks_1 0 rfl rfl)
theorem dX0_forks_26 : decode cX0_forks 26 = .ok (.iload 9, 2) := dk_21 9 (dk_at dksX0_forks_1 2 rfl rfl)
theorem dX0_forks_28 : decode cX0_forks 28 = .ok (.aload 5, 2) := dk_25 5 (dk_at dksX0_forks_1 4 rfl rfl)
theorem dX0_forks_30 : decode cX0_forks 30 = .ok (.invokevirtual 203, 3) := dk_182 0 203 (dk_at dksX0_forks_1 6 rfl rfl)
theorem dX0_forks_33 : decode cX0_forks 33 = .ok (.if_icmp .ge 145, 3) := dk_162 0 145 (dk_at dksX0_forks_1 9 rfl rfl)
theorem dX0_forks_36 : decode cX0_forks 36 = .ok (.aload 5, 2) := dk_25 5 (dk_at dksX0_forks_1 12 rfl rfl)
theorem dX0_forks_38 : decode cX0_forks 38 = .ok (.iload 9, 2) := dk_21 9 (dk_at dksX0_forks_1 14 rfl rfl)
theorem dX0_forks_40 : decode cX0_forks 40 = .ok (.invokevirtual 206, 3) := dk_182 0 206 (dk_at dksX0_forks_1 16 rfl rfl)
theorem dX0_forks_43 : decode cX0_forks 43 = .ok (.ifCond .ne 6, 3) := dk_154 0 6 (dk_at dksX0_forks_1 19 rfl rfl)
theorem dX0_forks_46 : decode cX0_forks 46 = .ok (.goto 126, 3) := dk_167 0 126 (dk_at dksX0_forks_2 0 rfl rfl)
theorem dX0_forks_49 : decode cX0_forks 49 = .ok (.aload 5, 2) := dk_25 5 (dk_at dksX0_forks_2 3 rfl rfl)
theorem dX0_forks_51 : decode cX0_forks 51 = .ok (.iload 9, 2) := dk_21 9 (dk_at dksX0_forks_2 5 rfl rfl)
theorem dX0_forks_53 : decode cX0_forks 53 = .ok (.invokevirtual 196, 3) := dk_182 0 196 (dk_at dksX0_forks_2 7 rfl rfl)
theorem dX0_forks_56 : decode cX0_forks 56 = .ok (.ifCond .eq 14, 3) := dk_153 0 14 (dk_at dksX0_forks_2 10 rfl rfl)
theorem dX0_forks_59 : decode cX0_forks 59 = .ok (.aload_n 0, 1) := dk_42 (dk_at dksX0_forks_2 13 rfl rfl)
theorem dX0_forks_60 : decode cX0_forks 60 = .ok (.aload 5, 2) := dk_25 5 (dk_at dksX0_forks_2 14 rfl rfl)
theorem dX0_forks_62 : decode cX0_forks 62 = .ok (.iload 9, 2) := dk_21 9 (dk_at dksX0_forks_2 16 rfl rfl)
theorem dX0_forks_64 : decode cX0_forks 64 = .ok (.invokevirtual 192, 3) := dk_182 0 192 (dk_at dksX0_forks_2 18 rfl rfl)
theorem dX0_forks_67 : decode cX0_forks 67 = .ok (.goto 4, 3) := dk_167 0 4 (dk_at dksX0_forks_2 21 rfl rfl)
theorem dX0_forks_70 : decode cX0_forks 70 = .ok (.iconst 0, 1) := dk_3 (dk_at dksX0_forks_3 0 rfl rfl)
theorem dX0_forks_71 : decode cX0_forks 71 = .ok (.istore 10, 2) := dk_54 10 (dk_at dksX0_forks_3 1 rfl rfl)
theorem dX0_forks_73 : decode cX0_forks 73 = .ok (.aload 5, 2) := dk_25 5 (dk_at dksX0_forks_3 3 rfl rfl)
theorem dX0_forks_75 : decode cX0_forks 75 = .ok (.getfield 209, 3) := dk_180 0 209 (dk_at dksX0_forks_3 5 rfl rfl)
theorem dX0_forks_78 : decode cX0_forks 78 = .ok (.iload 9, 2) := dk_21 9 (dk_at dksX0_forks_3 8 rfl rfl)
theorem dX0_forks_80 : decode cX0_forks 80 = .ok (.iload 10, 2) := dk_21 10 (dk_at dksX0_forks_3 10 rfl rfl)
theorem dX0_forks_82 : decode cX0_forks 82 = .ok (.bipush 100, 2) := dk_16 100 (dk_at dksX0_forks_3 12 rfl rfl)
theorem dX0_forks_84 : decode cX0_forks 84 = .ok (.if_icmp .ne 7, 3) := dk_160 0 7 (dk_at dksX0_forks_3 14 rfl rfl)
theorem dX0_forks_87 : decode cX0_forks 87 = .ok (.iconst 2, 1) := dk_5 (dk_at dksX0_forks_3 17 rfl rfl)
theorem dX0_forks_88 : decode cX0_forks 88 = .ok (.goto 4, 3) := dk_167 0 4 (dk_at dksX0_forks_3 18 rfl rfl)
theorem dX0_forks_91 : decode cX0_forks 91 = .ok (.iconst 1, 1) := dk_4 (dk_at dksX0_forks_3 21 rfl rfl)
theorem dX0_forks_92 : decode cX0_forks 92 = .ok (.iastore, 1) := dk_79 (dk_at dksX0_forks_3 22 rfl rfl)
theorem dX0_forks_93 : decode cX0_forks 93 = .ok (.iload 10, 2) := dk_21 10 (dk_at dksX0_forks_4 0 rfl rfl)
theorem dX0_forks_95 : decode cX0_forks 95 = .ok (.ifCond .le 69, 3) := dk_158 0 69 (dk_at dksX0_forks_4 2 rfl rfl)
theorem dX0_forks_98 : decode cX0_forks 98 = .ok (.iload 10, 2) := dk_21 10 (dk_at dksX0_forks_4 5 rfl rfl)
theorem dX0_forks_100 : decode cX0_forks 100 = .ok (.bipush 100, 2) := dk_16 100 (dk_at dksX0_forks_4 7 rfl rfl)
theorem dX0_forks_102 : decode cX0_forks 102 = .ok (.if_icmp .ge 62, 3) := dk_162 0 62 (dk_at dksX0_forks_4 9 rfl rfl)
theorem dX0_forks_105 : decode cX0_forks 105 = .ok (.aload_n 0, 1) := dk_42 (dk_at dksX0_forks_4 12 rfl rfl)
theorem dX0_forks_106 : decode cX0_forks 106 = .ok (.getfield 43, 3) := dk_180 0 43 (dk_at dksX0_forks_4 13 rfl rfl)
theorem dX0_forks_109 : decode cX0_forks 109 = .ok (.iload_n 1, 1) := dk_27 (dk_at dksX0_forks_4 16 rfl rfl)
theorem dX0_forks_110 : decode cX0_forks 110 = .ok (.iconst 1, 1) := dk_4 (dk_at dksX0_forks_4 17 rfl rfl)
theorem dX0_forks_111 : decode cX0_forks 111 = .ok (.iadd, 1) := dk_96 (dk_at dksX0_forks_4 18 rfl rfl)
theorem dX0_forks_112 : decode cX0_forks 112 = .ok (.aaload, 1) := dk_50 (dk_at dksX0_forks_4 19 rfl rfl)
theorem dX0_forks_113 : decode cX0_forks 113 = .ok (.aload 5, 2) := dk_25 5 (dk_at dksX0_forks_4 20 rfl rfl)
theorem dX0_forks_115 : decode cX0_forks 115 = .ok (.invokevirtual 265, 3) := dk_182 1 9 (dk_at dksX0_forks_5 0 rfl rfl)
theorem dX0_forks_118 : decode cX0_forks 118 = .ok (.aload_n 0, 1) := dk_42 (dk_at dksX0_forks_5 3 rfl rfl)
theorem dX0_forks_119 : decode cX0_forks 119 = .ok (.getfield 43, 3) := dk_180 0 43 (dk_at dksX0_forks_5 4 rfl rfl)
theorem dX0_forks_122 : decode cX0_forks 122 = .ok (.iload_n 1, 1) := dk_27 (dk_at dksX0_forks_5 7 rfl rfl)
theorem dX0_forks_123 : decode cX0_forks 123 = .ok (.iconst 1, 1) := dk_4 (dk_at dksX0_forks_5 8 rfl rfl)
theorem dX0_forks_124 : decode cX0_forks 124 = .ok (.iadd, 1) := dk_96 (dk_at dksX0_forks_5 9 rfl rfl)
theorem dX0_forks_125 : decode cX0_forks 125 = .ok (.aaload, 1) := dk_50 (dk_at dksX0_forks_5 10 rfl rfl)
theorem dX0_forks_126 : decode cX0_forks 126 = .ok (.getfield 209, 3) := dk_180 0 209 (dk_at dksX0_forks_5 11 rfl rfl)
theorem dX0_forks_129 : decode cX0_forks 129 = .ok (.iload 9, 2) := dk_21 9 (dk_at dksX0_forks_5 14 rfl rfl)
theorem dX0_forks_131 : decode cX0_forks 131 = .ok (.iconst 2, 1) := dk_5 (dk_at dksX0_forks_5 16 rfl rfl)
theorem dX0_forks_132 : decode cX0_forks 132 = .ok (.iastore, 1) := dk_79 (dk_at dksX0_forks_5 17 rfl rfl)
theorem dX0_forks_133 : decode cX0_forks 133 = .ok (.aload_n 0, 1) := dk_42 (dk_at dksX0_forks_5 18 rfl rfl)
theorem dX0_forks_134 : decode cX0_forks 134 = .ok (.iload_n 1, 1) := dk_27 (dk_at dksX0_forks_5 19 rfl rfl)
theorem dX0_forks_135 : decode cX0_forks 135 = .ok (.iconst 1, 1) := dk_4 (dk_at dksX0_forks_5 20 rfl rfl)
theorem dX0_forks_136 : decode cX0_forks 136 = .ok (.iadd, 1) := dk_96 (dk_at dksX0_forks_5 21 rfl rfl)
theorem dX0_forks_137 : decode cX0_forks 137 = .ok (.iload 9, 2) := dk_21 9 (dk_at dksX0_forks_5 22 rfl rfl)
theorem dX0_forks_139 : decode cX0_forks 139 = .ok (.iconst 1, 1) := dk_4 (dk_at dksX0_forks_6 0 rfl rfl)
theorem dX0_forks_140 : decode cX0_forks 140 = .ok (.iadd, 1) := dk_96 (dk_at dksX0_forks_6 1 rfl rfl)
theorem dX0_forks_141 : decode cX0_forks 141 = .ok (.lload 6, 2) := dk_22 6 (dk_at dksX0_forks_6 2 rfl rfl)
theorem dX0_forks_143 : decode cX0_forks 143 = .ok (.iload 10, 2) := dk_21 10 (dk_at dksX0_forks_6 4 rfl rfl)
theorem dX0_forks_145 : decode cX0_forks 145 = .ok (.i2l, 1) := dk_133 (dk_at dksX0_forks_6 6 rfl rfl)
theorem dX0_forks_146 : decode cX0_forks 146 = .ok (.lmul, 1) := dk_105 (dk_at dksX0_forks_6 7 rfl rfl)
theorem dX0_forks_147 : decode cX0_forks 147 = .ok (.invokevirtual 268, 3) := dk_182 1 12 (dk_at dksX0_forks_6 8 rfl rfl)
theorem dX0_forks_150 : decode cX0_forks 150 = .ok (.lload 6, 2) := dk_22 6 (dk_at dksX0_forks_6 11 rfl rfl)
theorem dX0_forks_152 : decode cX0_forks 152 = .ok (.bipush 100, 2) := dk_16 100 (dk_at dksX0_forks_6 13 rfl rfl)
theorem dX0_forks_154 : decode cX0_forks 154 = .ok (.iload 10, 2) := dk_21 10 (dk_at dksX0_forks_6 15 rfl rfl)
theorem dX0_forks_156 : decode cX0_forks 156 = .ok (.isub, 1) := dk_100 (dk_at dksX0_forks_6 17 rfl rfl)
theorem dX0_forks_157 : decode cX0_forks 157 = .ok (.i2l, 1) := dk_133 (dk_at dksX0_forks_6 18 rfl rfl)
theorem dX0_forks_158 : decode cX0_forks 158 = .ok (.lmul, 1) := dk_105 (dk_at dksX0_forks_6 19 rfl rfl)
theorem dX0_forks_159 : decode cX0_forks 159 = .ok (.lstore 6, 2) := dk_55 6 (dk_at dksX0_forks_6 20 rfl rfl)
theorem dX0_forks_161 : decode cX0_forks 161 = .ok (.goto 11, 3) := dk_167 0 11 (dk_at dksX0_forks_7 0 rfl rfl)
theorem dX0_forks_164 : decode cX0_forks 164 = .ok (.lload 6, 2) := dk_22 6 (dk_at dksX0_forks_7 3 rfl rfl)
theorem dX0_forks_166 : decode cX0_forks 166 = .ok (.ldc2_w 263, 3) := dk_20 1 7 (dk_at dksX0_forks_7 5 rfl rfl)
theorem dX0_forks_169 : decode cX0_forks 169 = .ok (.lmul, 1) := dk_105 (dk_at dksX0_forks_7 8 rfl rfl)
theorem dX0_forks_170 : decode cX0_forks 170 = .ok (.lstore 6, 2) := dk_55 6 (dk_at dksX0_forks_7 9 rfl rfl)
theorem dX0_forks_172 : decode cX0_forks 172 = .ok (.iinc 9 1, 3) := dk_132 9 1 (dk_at dksX0_forks_7 11 rfl rfl)
theorem dX0_forks_175 : decode cX0_forks 175 = .ok (.goto (-149), 3) := dk_167 255 107 (dk_at dksX0_forks_7 14 rfl rfl)
theorem dX0_forks_178 : decode cX0_forks 178 = .ok (.iconst 0, 1) := dk_3 (dk_at dksX0_forks_7 17 rfl rfl)
theorem dX0_forks_179 : decode cX0_forks 179 = .ok (.istore 8, 2) := dk_54 8 (dk_at dksX0_forks_7 18 rfl rfl)
theorem dX0_forks_181 : decode cX0_forks 181 = .ok (.aload 5, 2) := dk_25 5 (dk_at dksX0_forks_7 20 rfl rfl)
theorem dX0_forks_183 : decode cX0_forks 183 = .ok (.invokevirtual 215, 3) := dk_182 0 215 (dk_at dksX0_forks_8 0 rfl rfl)
theorem dX0_forks_186 : decode cX0_forks 186 = .ok (.goto (-172), 3) := dk_167 255 84 (dk_at dksX0_forks_8 3 rfl rfl)
theorem dX0_forks_189 : decode cX0_forks 189 = .ok (.aload_n 0, 1) := dk_42 (dk_at dksX0_forks_8 6 rfl rfl)
theorem dX0_forks_190 : decode cX0_forks 190 = .ok (.aload 5, 2) := dk_25 5 (dk_at dksX0_forks_8 7 rfl rfl)
theorem dX0_forks_192 : decode cX0_forks 192 = .ok (.lload 6, 2) := dk_22 6 (dk_at dksX0_forks_8 9 rfl rfl)
theorem dX0_forks_194 : decode cX0_forks 194 = .ok (.invokevirtual 272, 3) := dk_182 1 16 (dk_at dksX0_forks_8 11 rfl rfl)
theorem dX0_forks_197 : decode cX0_forks 197 = .ok (.return_, 1) := dk_177 (dk_at dksX0_forks_8 14 rfl rfl)
abbrev cX0_counts : ByteArray := prog_1_method_26_code
def yX0_counts : MethodName := ⟨RX0, "counts", "(LFootOut$Walk;J)V"⟩
def dkwX0_counts_7 : List UInt8 := [97, 80, 132, 6, 1, 167, 255, 217, 177]
abbrev dktX0_counts_7 : List UInt8 := dkwX0_counts_7 ++ []
def dkwX0_counts_6 : List UInt8 := [180, 0, 54, 21, 6, 92, 47, 43, 180, 0, 209, 21, 6, 46, 5, 160, 0, 8, 22, 4, 167, 0, 4, 9]
abbrev dktX0_counts_6 : List UInt8 := dkwX0_counts_6 ++ dktX0_counts_7
def dkwX0_counts_5 : List UInt8 := [180, 0, 237, 92, 47, 22, 4, 97, 80, 3, 54, 6, 21, 6, 43, 182, 0, 203, 162, 0, 36, 42]
abbrev dktX0_counts_5 : List UInt8 := dkwX0_counts_5 ++ dktX0_counts_6
def dkwX0_counts_4 : List UInt8 := [180, 0, 47, 8, 92, 47, 22, 4, 97, 80, 43, 180, 0, 237, 2, 159, 0, 17, 42, 180, 0, 51, 43]
abbrev dktX0_counts_4 : List UInt8 := dkwX0_counts_4 ++ dktX0_counts_5
def dkwX0_counts_3 : List UInt8 := [133, 105, 97, 80, 42, 180, 0, 47, 7, 92, 47, 22, 4, 43, 180, 0, 234, 133, 105, 97, 80, 42]
abbrev dktX0_counts_3 : List UInt8 := dkwX0_counts_3 ++ dktX0_counts_4
def dkwX0_counts_2 : List UInt8 := [180, 0, 218, 4, 100, 92, 47, 22, 4, 97, 80, 42, 180, 0, 47, 6, 92, 47, 22, 4, 43, 180, 0, 221]
abbrev dktX0_counts_2 : List UInt8 := dkwX0_counts_2 ++ dktX0_counts_3
def dkwX0_counts_1 : List UInt8 := [154, 0, 9, 20, 1, 7, 167, 0, 4, 10, 105, 55, 4, 132, 6, 1, 167, 255, 222, 42, 180, 0, 47, 43]
abbrev dktX0_counts_1 : List UInt8 := dkwX0_counts_1 ++ dktX0_counts_2
def dkwX0_counts_0 : List UInt8 := [32, 55, 4, 3, 54, 6, 21, 6, 43, 182, 0, 203, 162, 0, 31, 22, 4, 43, 180, 0, 209, 21, 6, 46]
abbrev dktX0_counts_0 : List UInt8 := dkwX0_counts_0 ++ dktX0_counts_1
theorem dksX0_counts_0 : cX0_counts.data.toList.drop 0 = dktX0_counts_0 := by decide +kernel
theorem dksX0_counts_1 : cX0_counts.data.toList.drop 24 = dktX0_counts_1 := dk_seg dksX0_counts_0 24 rfl rfl
theorem dksX0_counts_2 : cX0_counts.data.toList.drop 48 = dktX0_counts_2 := dk_seg dksX0_counts_1 24 rfl rfl
theorem dksX0_counts_3 : cX0_counts.data.toList.drop 72 = dktX0_counts_3 := dk_seg dksX0_counts_2 24 rfl rfl
theorem dksX0_counts_4 : cX0_counts.data.toList.drop 94 = dktX0_counts_4 := dk_seg dksX0_counts_3 22 rfl rfl
theorem dksX0_counts_5 : cX0_counts.data.toList.drop 117 = dktX0_counts_5 := dk_seg dksX0_counts_4 23 rfl rfl
theorem dksX0_counts_6 : cX0_counts.data.toList.drop 139 = dktX0_counts_6 := dk_seg dksX0_counts_5 22 rfl rfl
theorem dksX0_counts_7 : cX0_counts.data.toList.drop 163 = dktX0_counts_7 := dk_seg dksX0_counts_6 24 rfl rfl
theorem dX0_counts_0 : decode cX0_counts 0 = .ok (.lload_n 2, 1) := dk_32 (dk_at dksX0_counts_0 0 rfl rfl)
theorem dX0_counts_1 : decode cX0_counts 1 = .ok (.lstore 4, 2) := dk_55 4 (dk_at dksX0_counts_0 1 rfl rfl)
theorem dX0_counts_3 : decode cX0_counts 3 = .ok (.iconst 0, 1) := dk_3 (dk_at dksX0_counts_0 3 rfl rfl)
theorem dX0_counts_4 : decode cX0_counts 4 = .ok (.istore 6, 2) := dk_54 6 (dk_at dksX0_counts_0 4 rfl rfl)
theorem dX0_counts_6 : decode cX0_counts 6 = .ok (.iload 6, 2) := dk_21 6 (dk_at dksX0_counts_0 6 rfl rfl)
theorem dX0_counts_8 : decode cX0_counts 8 = .ok (.aload_n 1, 1) := dk_43 (dk_at dksX0_counts_0 8 rfl rfl)
theorem dX0_counts_9 : decode cX0_counts 9 = .ok (.invokevirtual 203, 3) := dk_182 0 203 (dk_at dksX0_counts_0 9 rfl rfl)
theorem dX0_counts_12 : decode cX0_counts 12 = .ok (.if_icmp .ge 31, 3) := dk_162 0 31 (dk_at dksX0_counts_0 12 rfl rfl)
theorem dX0_counts_15 : decode cX0_counts 15 = .ok (.lload 4, 2) := dk_22 4 (dk_at dksX0_counts_0 15 rfl rfl)
theorem dX0_counts_17 : decode cX0_counts 17 = .ok (.aload_n 1, 1) := dk_43 (dk_at dksX0_counts_0 17 rfl rfl)
theorem dX0_counts_18 : decode cX0_counts 18 = .ok (.getfield 209, 3) := dk_180 0 209 (dk_at dksX0_counts_0 18 rfl rfl)
theorem dX0_counts_21 : decode cX0_counts 21 = .ok (.iload 6, 2) := dk_21 6 (dk_at dksX0_counts_0 21 rfl rfl)
theorem dX0_counts_23 : decode cX0_counts 23 = .ok (.iaload, 1) := dk_46 (dk_at dksX0_counts_0 23 rfl rfl)
theorem dX0_counts_24 : decode cX0_counts 24 = .ok (.ifCond .ne 9, 3) := dk_154 0 9 (dk_at dksX0_counts_1 0 rfl rfl)
theorem dX0_counts_27 : decode cX0_counts 27 = .ok (.ldc2_w 263, 3) := dk_20 1 7 (dk_at dksX0_counts_1 3 rfl rfl)
theorem dX0_counts_30 : decode cX0_counts 30 = .ok (.goto 4, 3) := dk_167 0 4 (dk_at dksX0_counts_1 6 rfl rfl)
theorem dX0_counts_33 : decode cX0_counts 33 = .ok (.lconst 1, 1) := dk_10 (dk_at dksX0_counts_1 9 rfl rfl)
theorem dX0_counts_34 : decode cX0_counts 34 = .ok (.lmul, 1) := dk_105 (dk_at dksX0_counts_1 10 rfl rfl)
theorem dX0_counts_35 : decode cX0_counts 35 = .ok (.lstore 4, 2) := dk_55 4 (dk_at dksX0_counts_1 11 rfl rfl)
theorem dX0_counts_37 : decode cX0_counts 37 = .ok (.iinc 6 1, 3) := dk_132 6 1 (dk_at dksX0_counts_1 13 rfl rfl)
theorem dX0_counts_40 : decode cX0_counts 40 = .ok (.goto (-34), 3) := dk_167 255 222 (dk_at dksX0_counts_1 16 rfl rfl)
theorem dX0_counts_43 : decode cX0_counts 43 = .ok (.aload_n 0, 1) := dk_42 (dk_at dksX0_counts_1 19 rfl rfl)
theorem dX0_counts_44 : decode cX0_counts 44 = .ok (.getfield 47, 3) := dk_180 0 47 (dk_at dksX0_counts_1 20 rfl rfl)
theorem dX0_counts_47 : decode cX0_counts 47 = .ok (.aload_n 1, 1) := dk_43 (dk_at dksX0_counts_1 23 rfl rfl)
theorem dX0_counts_48 : decode cX0_counts 48 = .ok (.getfield 218, 3) := dk_180 0 218 (dk_at dksX0_counts_2 0 rfl rfl)
theorem dX0_counts_51 : decode cX0_counts 51 = .ok (.iconst 1, 1) := dk_4 (dk_at dksX0_counts_2 3 rfl rfl)
theorem dX0_counts_52 : decode cX0_counts 52 = .ok (.isub, 1) := dk_100 (dk_at dksX0_counts_2 4 rfl rfl)
theorem dX0_counts_53 : decode cX0_counts 53 = .ok (.dup2, 1) := dk_92 (dk_at dksX0_counts_2 5 rfl rfl)
theorem dX0_counts_54 : decode cX0_counts 54 = .ok (.laload, 1) := dk_47 (dk_at dksX0_counts_2 6 rfl rfl)
theorem dX0_counts_55 : decode cX0_counts 55 = .ok (.lload 4, 2) := dk_22 4 (dk_at dksX0_counts_2 7 rfl rfl)
theorem dX0_counts_57 : decode cX0_counts 57 = .ok (.ladd, 1) := dk_97 (dk_at dksX0_counts_2 9 rfl rfl)
theorem dX0_counts_58 : decode cX0_counts 58 = .ok (.lastore, 1) := dk_80 (dk_at dksX0_counts_2 10 rfl rfl)
theorem dX0_counts_59 : decode cX0_counts 59 = .ok (.aload_n 0, 1) := dk_42 (dk_at dksX0_counts_2 11 rfl rfl)
theorem dX0_counts_60 : decode cX0_counts 60 = .ok (.getfield 47, 3) := dk_180 0 47 (dk_at dksX0_counts_2 12 rfl rfl)
theorem dX0_counts_63 : decode cX0_counts 63 = .ok (.iconst 3, 1) := dk_6 (dk_at dksX0_counts_2 15 rfl rfl)
theorem dX0_counts_64 : decode cX0_counts 64 = .ok (.dup2, 1) := dk_92 (dk_at dksX0_counts_2 16 rfl rfl)
theorem dX0_counts_65 : decode cX0_counts 65 = .ok (.laload, 1) := dk_47 (dk_at dksX0_counts_2 17 rfl rfl)
theorem dX0_counts_66 : decode cX0_counts 66 = .ok (.lload 4, 2) := dk_22 4 (dk_at dksX0_counts_2 18 rfl rfl)
theorem dX0_counts_68 : decode cX0_counts 68 = .ok (.aload_n 1, 1) := dk_43 (dk_at dksX0_counts_2 20 rfl rfl)
theorem dX0_counts_69 : decode cX0_counts 69 = .ok (.getfield 221, 3) := dk_180 0 221 (dk_at dksX0_counts_2 21 rfl rfl)
theorem dX0_counts_72 : decode cX0_counts 72 = .ok (.i2l, 1) := dk_133 (dk_at dksX0_counts_3 0 rfl rfl)
theorem dX0_counts_73 : decode cX0_counts 73 = .ok (.lmul, 1) := dk_105 (dk_at dksX0_counts_3 1 rfl rfl)
theorem dX0_counts_74 : decode cX0_counts 74 = .ok (.ladd, 1) := dk_97 (dk_at dksX0_counts_3 2 rfl rfl)
theorem dX0_counts_75 : decode cX0_counts 75 = .ok (.lastore, 1) := dk_80 (dk_at dksX0_counts_3 3 rfl rfl)
theorem dX0_counts_76 : decode cX0_counts 76 = .ok (.aload_n 0, 1) := dk_42 (dk_at dksX0_counts_3 4 rfl rfl)
theorem dX0_counts_77 : decode cX0_counts 77 = .ok (.getfield 47, 3) := dk_180 0 47 (dk_at dksX0_counts_3 5 rfl rfl)
theorem dX0_counts_80 : decode cX0_counts 80 = .ok (.iconst 4, 1) := dk_7 (dk_at dksX0_counts_3 8 rfl rfl)
theorem dX0_counts_81 : decode cX0_counts 81 = .ok (.dup2, 1) := dk_92 (dk_at dksX0_counts_3 9 rfl rfl)
theorem dX0_counts_82 : decode cX0_counts 82 = .ok (.laload, 1) := dk_47 (dk_at dksX0_counts_3 10 rfl rfl)
theorem dX0_counts_83 : decode cX0_counts 83 = .ok (.lload 4, 2) := dk_22 4 (dk_at dksX0_counts_3 11 rfl rfl)
theorem dX0_counts_85 : decode cX0_counts 85 = .ok (.aload_n 1, 1) := dk_43 (dk_at dksX0_counts_3 13 rfl rfl)
theorem dX0_counts_86 : decode cX0_counts 86 = .ok (.getfield 234, 3) := dk_180 0 234 (dk_at dksX0_counts_3 14 rfl rfl)
theorem dX0_counts_89 : decode cX0_counts 89 = .ok (.i2l, 1) := dk_133 (dk_at dksX0_counts_3 17 rfl rfl)
theorem dX0_counts_90 : decode cX0_counts 90 = .ok (.lmul, 1) := dk_105 (dk_at dksX0_counts_3 18 rfl rfl)
theorem dX0_counts_91 : decode cX0_counts 91 = .ok (.ladd, 1) := dk_97 (dk_at dksX0_counts_3 19 rfl rfl)
theorem dX0_counts_92 : decode cX0_counts 92 = .ok (.lastore, 1) := dk_80 (dk_at dksX0_counts_3 20 rfl rfl)
theorem dX0_counts_93 : decode cX0_counts 93 = .ok (.aload_n 0, 1) := dk_42 (dk_at dksX0_counts_3 21 rfl rfl)
theorem dX0_counts_94 : decode cX0_counts 94 = .ok (.getfield 47, 3) := dk_180 0 47 (dk_at dksX0_counts_4 0 rfl rfl)
theorem dX0_counts_97 : decode cX0_counts 97 = .ok (.iconst 5, 1) := dk_8 (dk_at dksX0_counts_4 3 rfl rfl)
theorem dX0_counts_98 : decode cX0_counts 98 = .ok (.dup2, 1) := dk_92 (dk_at dksX0_counts_4 4 rfl rfl)
theorem dX0_counts_99 : decode cX0_counts 99 = .ok (.laload, 1) := dk_47 (dk_at dksX0_counts_4 5 rfl rfl)
theorem dX0_counts_100 : decode cX0_counts 100 = .ok (.lload 4, 2) := dk_22 4 (dk_at dksX0_counts_4 6 rfl rfl)
theorem dX0_counts_102 : decode cX0_counts 102 = .ok (.ladd, 1) := dk_97 (dk_at dksX0_counts_4 8 rfl rfl)
theorem dX0_counts_103 : decode cX0_counts 103 = .ok (.lastore, 1) := dk_80 (dk_at dksX0_counts_4 9 rfl rfl)
theorem dX0_counts_104 : decode cX0_counts 104 = .ok (.aload_n 1, 1) := dk_43 (dk_at dksX0_counts_4 10 rfl rfl)
theorem dX0_counts_105 : decode cX0_counts 105 = .ok (.getfield 237, 3) := dk_180 0 237 (dk_at dksX0_counts_4 11 rfl rfl)
theorem dX0_counts_108 : decode cX0_counts 108 = .ok (.iconst (-1), 1) := dk_2 (dk_at dksX0_counts_4 14 rfl rfl)
theorem dX0_counts_109 : decode cX0_counts 109 = .ok (.if_icmp .eq 17, 3) := dk_159 0 17 (dk_at dksX0_counts_4 15 rfl rfl)
theorem dX0_counts_112 : decode cX0_counts 112 = .ok (.aload_n 0, 1) := dk_42 (dk_at dksX0_counts_4 18 rfl rfl)
theorem dX0_counts_113 : decode cX0_counts 113 = .ok (.getfield 51, 3) := dk_180 0 51 (dk_at dksX0_counts_4 19 rfl rfl)
theorem dX0_counts_116 : decode cX0_counts 116 = .ok (.aload_n 1, 1) := dk_43 (dk_at dksX0_counts_4 22 rfl rfl)
theorem dX0_counts_117 : decode cX0_counts 117 = .ok (.getfield 237, 3) := dk_180 0 237 (dk_at dksX0_counts_5 0 rfl rfl)
theorem dX0_counts_120 : decode cX0_counts 120 = .ok (.dup2, 1) := dk_92 (dk_at dksX0_counts_5 3 rfl rfl)
theorem dX0_counts_121 : decode cX0_counts 121 = .ok (.laload, 1) := dk_47 (dk_at dksX0_counts_5 4 rfl rfl)
theorem dX0_counts_122 : decode cX0_counts 122 = .ok (.lload 4, 2) := dk_22 4 (dk_at dksX0_counts_5 5 rfl rfl)
theorem dX0_counts_124 : decode cX0_counts 124 = .ok (.ladd, 1) := dk_97 (dk_at dksX0_counts_5 7 rfl rfl)
theorem dX0_counts_125 : decode cX0_counts 125 = .ok (.lastore, 1) := dk_80 (dk_at dksX0_counts_5 8 rfl rfl)
theorem dX0_counts_126 : decode cX0_counts 126 = .ok (.iconst 0, 1) := dk_3 (dk_at dksX0_counts_5 9 rfl rfl)
theorem dX0_counts_127 : decode cX0_counts 127 = .ok (.istore 6, 2) := dk_54 6 (dk_at dksX0_counts_5 10 rfl rfl)
theorem dX0_counts_129 : decode cX0_counts 129 = .ok (.iload 6, 2) := dk_21 6 (dk_at dksX0_counts_5 12 rfl rfl)
theorem dX0_counts_131 : decode cX0_counts 131 = .ok (.aload_n 1, 1) := dk_43 (dk_at dksX0_counts_5 14 rfl rfl)
theorem dX0_counts_132 : decode cX0_counts 132 = .ok (.invokevirtual 203, 3) := dk_182 0 203 (dk_at dksX0_counts_5 15 rfl rfl)
theorem dX0_counts_135 : decode cX0_counts 135 = .ok (.if_icmp .ge 36, 3) := dk_162 0 36 (dk_at dksX0_counts_5 18 rfl rfl)
theorem dX0_counts_138 : decode cX0_counts 138 = .ok (.aload_n 0, 1) := dk_42 (dk_at dksX0_counts_5 21 rfl rfl)
theorem dX0_counts_139 : decode cX0_counts 139 = .ok (.getfield 54, 3) := dk_180 0 54 (dk_at dksX0_counts_6 0 rfl rfl)
theorem dX0_counts_142 : decode cX0_counts 142 = .ok (.iload 6, 2) := dk_21 6 (dk_at dksX0_counts_6 3 rfl rfl)
theorem dX0_counts_144 : decode cX0_counts 144 = .ok (.dup2, 1) := dk_92 (dk_at dksX0_counts_6 5 rfl rfl)
theorem dX0_counts_145 : decode cX0_counts 145 = .ok (.laload, 1) := dk_47 (dk_at dksX0_counts_6 6 rfl rfl)
theorem dX0_counts_146 : decode cX0_counts 146 = .ok (.aload_n 1, 1) := dk_43 (dk_at dksX0_counts_6 7 rfl rfl)
theorem dX0_counts_147 : decode cX0_counts 147 = .ok (.getfield 209, 3) := dk_180 0 209 (dk_at dksX0_counts_6 8 rfl rfl)
theorem dX0_counts_150 : decode cX0_counts 150 = .ok (.iload 6, 2) := dk_21 6 (dk_at dksX0_counts_6 11 rfl rfl)
theorem dX0_counts_152 : decode cX0_counts 152 = .ok (.iaload, 1) := dk_46 (dk_at dksX0_counts_6 13 rfl rfl)
theorem dX0_counts_153 : decode cX0_counts 153 = .ok (.iconst 2, 1) := dk_5 (dk_at dksX0_counts_6 14 rfl rfl)
theorem dX0_counts_154 : decode cX0_counts 154 = .ok (.if_icmp .ne 8, 3) := dk_160 0 8 (dk_at dksX0_counts_6 15 rfl rfl)
theorem dX0_counts_157 : decode cX0_counts 157 = .ok (.lload 4, 2) := dk_22 4 (dk_at dksX0_counts_6 18 rfl rfl)
theorem dX0_counts_159 : decode cX0_counts 159 = .ok (.goto 4, 3) := dk_167 0 4 (dk_at dksX0_counts_6 20 rfl rfl)
theorem dX0_counts_162 : decode cX0_counts 162 = .ok (.lconst 0, 1) := dk_9 (dk_at dksX0_counts_6 23 rfl rfl)
theorem dX0_counts_163 : decode cX0_counts 163 = .ok (.ladd, 1) := dk_97 (dk_at dksX0_counts_7 0 rfl rfl)
theorem dX0_counts_164 : decode cX0_counts 164 = .ok (.lastore, 1) := dk_80 (dk_at dksX0_counts_7 1 rfl rfl)
theorem dX0_counts_165 : decode cX0_counts 165 = .ok (.iinc 6 1, 3) := dk_132 6 1 (dk_at dksX0_counts_7 2 rfl rfl)
theorem dX0_counts_168 : decode cX0_counts 168 = .ok (.goto (-39), 3) := dk_167 255 217 (dk_at dksX0_counts_7 5 rfl rfl)
theorem dX0_counts_171 : decode cX0_counts 171 = .ok (.return_, 1) := dk_177 (dk_at dksX0_counts_7 8 rfl rfl)
abbrev cX0_helps : ByteArray := prog_1_method_31_code
def yX0_helps : MethodName := ⟨RX0, "helps", "(I)J"⟩
def dkwX0_helps_2 : List UInt8 := [101, 173]
abbrev dktX0_helps_2 : List UInt8 := dkwX0_helps_2 ++ []
def dkwX0_helps_1 : List UInt8 := [180, 0, 156, 4, 27, 120, 130, 182, 1, 24, 42, 42, 180, 0, 10, 180, 0, 118, 180, 0, 156, 182, 1, 24]
abbrev dktX0_helps_1 : List UInt8 := dkwX0_helps_1 ++ dktX0_helps_2
def dkwX0_helps_0 : List UInt8 := [27, 184, 0, 153, 154, 0, 11, 42, 16, 254, 182, 0, 73, 133, 173, 42, 42, 180, 0, 10, 180, 0, 118]
abbrev dktX0_helps_0 : List UInt8 := dkwX0_helps_0 ++ dktX0_helps_1
theorem dksX0_helps_0 : cX0_helps.data.toList.drop 0 = dktX0_helps_0 := by decide +kernel
theorem dksX0_helps_1 : cX0_helps.data.toList.drop 23 = dktX0_helps_1 := dk_seg dksX0_helps_0 23 rfl rfl
theorem dksX0_helps_2 : cX0_helps.data.toList.drop 47 = dktX0_helps_2 := dk_seg dksX0_helps_1 24 rfl rfl
theorem dX0_helps_0 : decode cX0_helps 0 = .ok (.iload_n 1, 1) := dk_27 (dk_at dksX0_helps_0 0 rfl rfl)
theorem dX0_helps_1 : decode cX0_helps 1 = .ok (.invokestatic 153, 3) := dk_184 0 153 (dk_at dksX0_helps_0 1 rfl rfl)
theorem dX0_helps_4 : decode cX0_helps 4 = .ok (.ifCond .ne 11, 3) := dk_154 0 11 (dk_at dksX0_helps_0 4 rfl rfl)
theorem dX0_helps_7 : decode cX0_helps 7 = .ok (.aload_n 0, 1) := dk_42 (dk_at dksX0_helps_0 7 rfl rfl)
theorem dX0_helps_8 : decode cX0_helps 8 = .ok (.bipush (-2), 2) := dk_16 254 (dk_at dksX0_helps_0 8 rfl rfl)
theorem dX0_helps_10 : decode cX0_helps 10 = .ok (.invokevirtual 73, 3) := dk_182 0 73 (dk_at dksX0_helps_0 10 rfl rfl)
theorem dX0_helps_13 : decode cX0_helps 13 = .ok (.i2l, 1) := dk_133 (dk_at dksX0_helps_0 13 rfl rfl)
theorem dX0_helps_14 : decode cX0_helps 14 = .ok (.lreturn, 1) := dk_173 (dk_at dksX0_helps_0 14 rfl rfl)
theorem dX0_helps_15 : decode cX0_helps 15 = .ok (.aload_n 0, 1) := dk_42 (dk_at dksX0_helps_0 15 rfl rfl)
theorem dX0_helps_16 : decode cX0_helps 16 = .ok (.aload_n 0, 1) := dk_42 (dk_at dksX0_helps_0 16 rfl rfl)
theorem dX0_helps_17 : decode cX0_helps 17 = .ok (.getfield 10, 3) := dk_180 0 10 (dk_at dksX0_helps_0 17 rfl rfl)
theorem dX0_helps_20 : decode cX0_helps 20 = .ok (.getfield 118, 3) := dk_180 0 118 (dk_at dksX0_helps_0 20 rfl rfl)
theorem dX0_helps_23 : decode cX0_helps 23 = .ok (.getfield 156, 3) := dk_180 0 156 (dk_at dksX0_helps_1 0 rfl rfl)
theorem dX0_helps_26 : decode cX0_helps 26 = .ok (.iconst 1, 1) := dk_4 (dk_at dksX0_helps_1 3 rfl rfl)
theorem dX0_helps_27 : decode cX0_helps 27 = .ok (.iload_n 1, 1) := dk_27 (dk_at dksX0_helps_1 4 rfl rfl)
theorem dX0_helps_28 : decode cX0_helps 28 = .ok (.ishl, 1) := dk_120 (dk_at dksX0_helps_1 5 rfl rfl)
theorem dX0_helps_29 : decode cX0_helps 29 = .ok (.ixor, 1) := dk_130 (dk_at dksX0_helps_1 6 rfl rfl)
theorem dX0_helps_30 : decode cX0_helps 30 = .ok (.invokevirtual 280, 3) := dk_182 1 24 (dk_at dksX0_helps_1 7 rfl rfl)
theorem dX0_helps_33 : decode cX0_helps 33 = .ok (.aload_n 0, 1) := dk_42 (dk_at dksX0_helps_1 10 rfl rfl)
theorem dX0_helps_34 : decode cX0_helps 34 = .ok (.aload_n 0, 1) := dk_42 (dk_at dksX0_helps_1 11 rfl rfl)
theorem dX0_helps_35 : decode cX0_helps 35 = .ok (.getfield 10, 3) := dk_180 0 10 (dk_at dksX0_helps_1 12 rfl rfl)
theorem dX0_helps_38 : decode cX0_helps 38 = .ok (.getfield 118, 3) := dk_180 0 118 (dk_at dksX0_helps_1 15 rfl rfl)
theorem dX0_helps_41 : decode cX0_helps 41 = .ok (.getfield 156, 3) := dk_180 0 156 (dk_at dksX0_helps_1 18 rfl rfl)
theorem dX0_helps_44 : decode cX0_helps 44 = .ok (.invokevirtual 280, 3) := dk_182 1 24 (dk_at dksX0_helps_1 21 rfl rfl)
theorem dX0_helps_47 : decode cX0_helps 47 = .ok (.lsub, 1) := dk_101 (dk_at dksX0_helps_2 0 rfl rfl)
theorem dX0_helps_48 : decode cX0_helps 48 = .ok (.lreturn, 1) := dk_173 (dk_at dksX0_helps_2 1 rfl rfl)
abbrev cX0_overBy : ByteArray := prog_1_method_30_code
def yX0_overBy : MethodName := ⟨RX0, "overBy", "(I)J"⟩
def dkwX0_overBy_2 : List UInt8 := [3, 47, 173]
abbrev dktX0_overBy_2 : List UInt8 := dkwX0_overBy_2 ++ []
def dkwX0_overBy_1 : List UInt8 := [180, 0, 10, 180, 0, 118, 182, 1, 20, 42, 180, 0, 10, 180, 0, 118, 28, 181, 0, 156, 42, 180, 0, 47]
abbrev dktX0_overBy_1 : List UInt8 := dkwX0_overBy_1 ++ dktX0_overBy_2
def dkwX0_overBy_0 : List UInt8 := [42, 180, 0, 10, 180, 0, 118, 180, 0, 156, 61, 42, 180, 0, 10, 180, 0, 118, 27, 181, 0, 156, 42, 42]
abbrev dktX0_overBy_0 : List UInt8 := dkwX0_overBy_0 ++ dktX0_overBy_1
theorem dksX0_overBy_0 : cX0_overBy.data.toList.drop 0 = dktX0_overBy_0 := by decide +kernel
theorem dksX0_overBy_1 : cX0_overBy.data.toList.drop 24 = dktX0_overBy_1 := dk_seg dksX0_overBy_0 24 rfl rfl
theorem dksX0_overBy_2 : cX0_overBy.data.toList.drop 48 = dktX0_overBy_2 := dk_seg dksX0_overBy_1 24 rfl rfl
theorem dX0_overBy_0 : decode cX0_overBy 0 = .ok (.aload_n 0, 1) := dk_42 (dk_at dksX0_overBy_0 0 rfl rfl)
theorem dX0_overBy_1 : decode cX0_overBy 1 = .ok (.getfield 10, 3) := dk_180 0 10 (dk_at dksX0_overBy_0 1 rfl rfl)
theorem dX0_overBy_4 : decode cX0_overBy 4 = .ok (.getfield 118, 3) := dk_180 0 118 (dk_at dksX0_overBy_0 4 rfl rfl)
theorem dX0_overBy_7 : decode cX0_overBy 7 = .ok (.getfield 156, 3) := dk_180 0 156 (dk_at dksX0_overBy_0 7 rfl rfl)
theorem dX0_overBy_10 : decode cX0_overBy 10 = .ok (.istore_n 2, 1) := dk_61 (dk_at dksX0_overBy_0 10 rfl rfl)
theorem dX0_overBy_11 : decode cX0_overBy 11 = .ok (.aload_n 0, 1) := dk_42 (dk_at dksX0_overBy_0 11 rfl rfl)
theorem dX0_overBy_12 : decode cX0_overBy 12 = .ok (.getfield 10, 3) := dk_180 0 10 (dk_at dksX0_overBy_0 12 rfl rfl)
theorem dX0_overBy_15 : decode cX0_overBy 15 = .ok (.getfield 118, 3) := dk_180 0 118 (dk_at dksX0_overBy_0 15 rfl rfl)
theorem dX0_overBy_18 : decode cX0_overBy 18 = .ok (.iload_n 1, 1) := dk_27 (dk_at dksX0_overBy_0 18 rfl rfl)
theorem dX0_overBy_19 : decode cX0_overBy 19 = .ok (.putfield 156, 3) := dk_181 0 156 (dk_at dksX0_overBy_0 19 rfl rfl)
theorem dX0_overBy_22 : decode cX0_overBy 22 = .ok (.aload_n 0, 1) := dk_42 (dk_at dksX0_overBy_0 22 rfl rfl)
theorem dX0_overBy_23 : decode cX0_overBy 23 = .ok (.aload_n 0, 1) := dk_42 (dk_at dksX0_overBy_0 23 rfl rfl)
theorem dX0_overBy_24 : decode cX0_overBy 24 = .ok (.getfield 10, 3) := dk_180 0 10 (dk_at dksX0_overBy_1 0 rfl rfl)
theorem dX0_overBy_27 : decode cX0_overBy 27 = .ok (.getfield 118, 3) := dk_180 0 118 (dk_at dksX0_overBy_1 3 rfl rfl)
theorem dX0_overBy_30 : decode cX0_overBy 30 = .ok (.invokevirtual 276, 3) := dk_182 1 20 (dk_at dksX0_overBy_1 6 rfl rfl)
theorem dX0_overBy_33 : decode cX0_overBy 33 = .ok (.aload_n 0, 1) := dk_42 (dk_at dksX0_overBy_1 9 rfl rfl)
theorem dX0_overBy_34 : decode cX0_overBy 34 = .ok (.getfield 10, 3) := dk_180 0 10 (dk_at dksX0_overBy_1 10 rfl rfl)
theorem dX0_overBy_37 : decode cX0_overBy 37 = .ok (.getfield 118, 3) := dk_180 0 118 (dk_at dksX0_overBy_1 13 rfl rfl)
theorem dX0_overBy_40 : decode cX0_overBy 40 = .ok (.iload_n 2, 1) := dk_28 (dk_at dksX0_overBy_1 16 rfl rfl)
theorem dX0_overBy_41 : decode cX0_overBy 41 = .ok (.putfield 156, 3) := dk_181 0 156 (dk_at dksX0_overBy_1 17 rfl rfl)
theorem dX0_overBy_44 : decode cX0_overBy 44 = .ok (.aload_n 0, 1) := dk_42 (dk_at dksX0_overBy_1 20 rfl rfl)
theorem dX0_overBy_45 : decode cX0_overBy 45 = .ok (.getfield 47, 3) := dk_180 0 47 (dk_at dksX0_overBy_1 21 rfl rfl)
theorem dX0_overBy_48 : decode cX0_overBy 48 = .ok (.iconst 0, 1) := dk_3 (dk_at dksX0_overBy_2 0 rfl rfl)
theorem dX0_overBy_49 : decode cX0_overBy 49 = .ok (.laload, 1) := dk_47 (dk_at dksX0_overBy_2 1 rfl rfl)
theorem dX0_overBy_50 : decode cX0_overBy 50 = .ok (.lreturn, 1) := dk_173 (dk_at dksX0_overBy_2 2 rfl rfl)
abbrev cX0_best : ByteArray := prog_1_method_32_code
def yX0_best : MethodName := ⟨RX0, "best", "(I)I"⟩
def dkwX0_best_3 : List UInt8 := [33, 148, 157, 0, 6, 167, 0, 9, 21, 5, 61, 22, 6, 66, 132, 5, 1, 167, 255, 193, 28, 172]
abbrev dktX0_best_3 : List UInt8 := dkwX0_best_3 ++ []
def dkwX0_best_2 : List UInt8 := [180, 0, 10, 180, 0, 118, 180, 0, 156, 21, 5, 130, 182, 1, 24, 55, 6, 28, 2, 159, 0, 13, 22, 6]
abbrev dktX0_best_2 : List UInt8 := dkwX0_best_2 ++ dktX0_best_3
def dkwX0_best_1 : List UInt8 := [54, 5, 21, 5, 17, 1, 0, 162, 0, 61, 21, 5, 184, 1, 28, 27, 159, 0, 6, 167, 0, 43, 42, 42]
abbrev dktX0_best_1 : List UInt8 := dkwX0_best_1 ++ dktX0_best_2
def dkwX0_best_0 : List UInt8 := [27, 133, 9, 20, 0, 131, 184, 0, 81, 154, 0, 10, 42, 16, 253, 182, 0, 73, 172, 2, 61, 9, 66, 3]
abbrev dktX0_best_0 : List UInt8 := dkwX0_best_0 ++ dktX0_best_1
theorem dksX0_best_0 : cX0_best.data.toList.drop 0 = dktX0_best_0 := by decide +kernel
theorem dksX0_best_1 : cX0_best.data.toList.drop 24 = dktX0_best_1 := dk_seg dksX0_best_0 24 rfl rfl
theorem dksX0_best_2 : cX0_best.data.toList.drop 48 = dktX0_best_2 := dk_seg dksX0_best_1 24 rfl rfl
theorem dksX0_best_3 : cX0_best.data.toList.drop 72 = dktX0_best_3 := dk_seg dksX0_best_2 24 rfl rfl
theorem dX0_best_0 : decode cX0_best 0 = .ok (.iload_n 1, 1) := dk_27 (dk_at dksX0_best_0 0 rfl rfl)
theorem dX0_best_1 : decode cX0_best 1 = .ok (.i2l, 1) := dk_133 (dk_at dksX0_best_0 1 rfl rfl)
theorem dX0_best_2 : decode cX0_best 2 = .ok (.lconst 0, 1) := dk_9 (dk_at dksX0_best_0 2 rfl rfl)
theorem dX0_best_3 : decode cX0_best 3 = .ok (.ldc2_w 131, 3) := dk_20 0 131 (dk_at dksX0_best_0 3 rfl rfl)
theorem dX0_best_6 : decode cX0_best 6 = .ok (.invokestatic 81, 3) := dk_184 0 81 (dk_at dksX0_best_0 6 rfl rfl)
theorem dX0_best_9 : decode cX0_best 9 = .ok (.ifCond .ne 10, 3) := dk_154 0 10 (dk_at dksX0_best_0 9 rfl rfl)
theorem dX0_best_12 : decode cX0_best 12 = .ok (.aload_n 0, 1) := dk_42 (dk_at dksX0_best_0 12 rfl rfl)
theorem dX0_best_13 : decode cX0_best 13 = .ok (.bipush (-3), 2) := dk_16 253 (dk_at dksX0_best_0 13 rfl rfl)
theorem dX0_best_15 : decode cX0_best 15 = .ok (.invokevirtual 73, 3) := dk_182 0 73 (dk_at dksX0_best_0 15 rfl rfl)
theorem dX0_best_18 : decode cX0_best 18 = .ok (.ireturn, 1) := dk_172 (dk_at dksX0_best_0 18 rfl rfl)
theorem dX0_best_19 : decode cX0_best 19 = .ok (.iconst (-1), 1) := dk_2 (dk_at dksX0_best_0 19 rfl rfl)
theorem dX0_best_20 : decode cX0_best 20 = .ok (.istore_n 2, 1) := dk_61 (dk_at dksX0_best_0 20 rfl rfl)
theorem dX0_best_21 : decode cX0_best 21 = .ok (.lconst 0, 1) := dk_9 (dk_at dksX0_best_0 21 rfl rfl)
theorem dX0_best_22 : decode cX0_best 22 = .ok (.lstore_n 3, 1) := dk_66 (dk_at dksX0_best_0 22 rfl rfl)
theorem dX0_best_23 : decode cX0_best 23 = .ok (.iconst 0, 1) := dk_3 (dk_at dksX0_best_0 23 rfl rfl)
theorem dX0_best_24 : decode cX0_best 24 = .ok (.istore 5, 2) := dk_54 5 (dk_at dksX0_best_1 0 rfl rfl)
theorem dX0_best_26 : decode cX0_best 26 = .ok (.iload 5, 2) := dk_21 5 (dk_at dksX0_best_1 2 rfl rfl)
theorem dX0_best_28 : decode cX0_best 28 = .ok (.sipush 256, 3) := dk_17 1 0 (dk_at dksX0_best_1 4 rfl rfl)
theorem dX0_best_31 : decode cX0_best 31 = .ok (.if_icmp .ge 61, 3) := dk_162 0 61 (dk_at dksX0_best_1 7 rfl rfl)
theorem dX0_best_34 : decode cX0_best 34 = .ok (.iload 5, 2) := dk_21 5 (dk_at dksX0_best_1 10 rfl rfl)
theorem dX0_best_36 : decode cX0_best 36 = .ok (.invokestatic 284, 3) := dk_184 1 28 (dk_at dksX0_best_1 12 rfl rfl)
theorem dX0_best_39 : decode cX0_best 39 = .ok (.iload_n 1, 1) := dk_27 (dk_at dksX0_best_1 15 rfl rfl)
theorem dX0_best_40 : decode cX0_best 40 = .ok (.if_icmp .eq 6, 3) := dk_159 0 6 (dk_at dksX0_best_1 16 rfl rfl)
theorem dX0_best_43 : decode cX0_best 43 = .ok (.goto 43, 3) := dk_167 0 43 (dk_at dksX0_best_1 19 rfl rfl)
theorem dX0_best_46 : decode cX0_best 46 = .ok (.aload_n 0, 1) := dk_42 (dk_at dksX0_best_1 22 rfl rfl)
theorem dX0_best_47 : decode cX0_best 47 = .ok (.aload_n 0, 1) := dk_42 (dk_at dksX0_best_1 23 rfl rfl)
theorem dX0_best_48 : decode cX0_best 48 = .ok (.getfield 10, 3) := dk_180 0 10 (dk_at dksX0_best_2 0 rfl rfl)
theorem dX0_best_51 : decode cX0_best 51 = .ok (.getfield 118, 3) := dk_180 0 118 (dk_at dksX0_best_2 3 rfl rfl)
theorem dX0_best_54 : decode cX0_best 54 = .ok (.getfield 156, 3) := dk_180 0 156 (dk_at dksX0_best_2 6 rfl rfl)
theorem dX0_best_57 : decode cX0_best 57 = .ok (.iload 5, 2) := dk_21 5 (dk_at dksX0_best_2 9 rfl rfl)
theorem dX0_best_59 : decode cX0_best 59 = .ok (.ixor, 1) := dk_130 (dk_at dksX0_best_2 11 rfl rfl)
theorem dX0_best_60 : decode cX0_best 60 = .ok (.invokevirtual 280, 3) := dk_182 1 24 (dk_at dksX0_best_2 12 rfl rfl)
theorem dX0_best_63 : decode cX0_best 63 = .ok (.lstore 6, 2) := dk_55 6 (dk_at dksX0_best_2 15 rfl rfl)
theorem dX0_best_65 : decode cX0_best 65 = .ok (.iload_n 2, 1) := dk_28 (dk_at dksX0_best_2 17 rfl rfl)
theorem dX0_best_66 : decode cX0_best 66 = .ok (.iconst (-1), 1) := dk_2 (dk_at dksX0_best_2 18 rfl rfl)
theorem dX0_best_67 : decode cX0_best 67 = .ok (.if_icmp .eq 13, 3) := dk_159 0 13 (dk_at dksX0_best_2 19 rfl rfl)
theorem dX0_best_70 : decode cX0_best 70 = .ok (.lload 6, 2) := dk_22 6 (dk_at dksX0_best_2 22 rfl rfl)
theorem dX0_best_72 : decode cX0_best 72 = .ok (.lload_n 3, 1) := dk_33 (dk_at dksX0_best_3 0 rfl rfl)
theorem dX0_best_73 : decode cX0_best 73 = .ok (.lcmp, 1) := dk_148 (dk_at dksX0_best_3 1 rfl rfl)
theorem dX0_best_74 : decode cX0_best 74 = .ok (.ifCond .gt 6, 3) := dk_157 0 6 (dk_at dksX0_best_3 2 rfl rfl)
theorem dX0_best_77 : decode cX0_best 77 = .ok (.goto 9, 3) := dk_167 0 9 (dk_at dksX0_best_3 5 rfl rfl)
theorem dX0_best_80 : decode cX0_best 80 = .ok (.iload 5, 2) := dk_21 5 (dk_at dksX0_best_3 8 rfl rfl)
theorem dX0_best_82 : decode cX0_best 82 = .ok (.istore_n 2, 1) := dk_61 (dk_at dksX0_best_3 10 rfl rfl)
theorem dX0_best_83 : decode cX0_best 83 = .ok (.lload 6, 2) := dk_22 6 (dk_at dksX0_best_3 11 rfl rfl)
theorem dX0_best_85 : decode cX0_best 85 = .ok (.lstore_n 3, 1) := dk_66 (dk_at dksX0_best_3 13 rfl rfl)
theorem dX0_best_86 : decode cX0_best 86 = .ok (.iinc 5 1, 3) := dk_132 5 1 (dk_at dksX0_best_3 14 rfl rfl)
theorem dX0_best_89 : decode cX0_best 89 = .ok (.goto (-63), 3) := dk_167 255 193 (dk_at dksX0_best_3 17 rfl rfl)
theorem dX0_best_92 : decode cX0_best 92 = .ok (.iload_n 2, 1) := dk_28 (dk_at dksX0_best_3 20 rfl rfl)
theorem dX0_best_93 : decode cX0_best 93 = .ok (.ireturn, 1) := dk_172 (dk_at dksX0_best_3 21 rfl rfl)
abbrev cX0_back : ByteArray := prog_1_method_33_code
def yX0_back : MethodName := ⟨RX0, "back", "(I)I"⟩
def dkwX0_back_4 : List UInt8 := [167, 255, 196, 42, 180, 0, 10, 180, 0, 118, 28, 181, 1, 35, 29, 172]
abbrev dktX0_back_4 : List UInt8 := dkwX0_back_4 ++ []
def dkwX0_back_3 : List UInt8 := [180, 0, 47, 4, 47, 27, 42, 180, 0, 47, 8, 47, 184, 1, 38, 153, 0, 6, 21, 4, 62, 132, 4, 1]
abbrev dktX0_back_3 : List UInt8 := dkwX0_back_3 ++ dktX0_back_4
def dkwX0_back_2 : List UInt8 := [42, 180, 0, 10, 180, 0, 118, 21, 4, 181, 1, 35, 42, 42, 180, 0, 10, 180, 0, 118, 182, 1, 20, 42]
abbrev dktX0_back_2 : List UInt8 := dkwX0_back_2 ++ dktX0_back_3
def dkwX0_back_1 : List UInt8 := [180, 0, 118, 180, 1, 35, 61, 2, 62, 3, 54, 4, 21, 4, 16, 30, 163, 0, 59, 29, 2, 160, 0, 54]
abbrev dktX0_back_1 : List UInt8 := dkwX0_back_1 ++ dktX0_back_2
def dkwX0_back_0 : List UInt8 := [27, 133, 9, 20, 1, 33, 184, 0, 81, 154, 0, 10, 42, 16, 253, 182, 0, 73, 172, 42, 180, 0, 10]
abbrev dktX0_back_0 : List UInt8 := dkwX0_back_0 ++ dktX0_back_1
theorem dksX0_back_0 : cX0_back.data.toList.drop 0 = dktX0_back_0 := by decide +kernel
theorem dksX0_back_1 : cX0_back.data.toList.drop 23 = dktX0_back_1 := dk_seg dksX0_back_0 23 rfl rfl
theorem dksX0_back_2 : cX0_back.data.toList.drop 47 = dktX0_back_2 := dk_seg dksX0_back_1 24 rfl rfl
theorem dksX0_back_3 : cX0_back.data.toList.drop 71 = dktX0_back_3 := dk_seg dksX0_back_2 24 rfl rfl
theorem dksX0_back_4 : cX0_back.data.toList.drop 95 = dktX0_back_4 := dk_seg dksX0_back_3 24 rfl rfl
theorem dX0_back_0 : decode cX0_back 0 = .ok (.iload_n 1, 1) := dk_27 (dk_at dksX0_back_0 0 rfl rfl)
theorem dX0_back_1 : decode cX0_back 1 = .ok (.i2l, 1) := dk_133 (dk_at dksX0_back_0 1 rfl rfl)
theorem dX0_back_2 : decode cX0_back 2 = .ok (.lconst 0, 1) := dk_9 (dk_at dksX0_back_0 2 rfl rfl)
theorem dX0_back_3 : decode cX0_back 3 = .ok (.ldc2_w 289, 3) := dk_20 1 33 (dk_at dksX0_back_0 3 rfl rfl)
theorem dX0_back_6 : decode cX0_back 6 = .ok (.invokestatic 81, 3) := dk_184 0 81 (dk_at dksX0_back_0 6 rfl rfl)
theorem dX0_back_9 : decode cX0_back 9 = .ok (.ifCond .ne 10, 3) := dk_154 0 10 (dk_at dksX0_back_0 9 rfl rfl)
theorem dX0_back_12 : decode cX0_back 12 = .ok (.aload_n 0, 1) := dk_42 (dk_at dksX0_back_0 12 rfl rfl)
theorem dX0_back_13 : decode cX0_back 13 = .ok (.bipush (-3), 2) := dk_16 253 (dk_at dksX0_back_0 13 rfl rfl)
theorem dX0_back_15 : decode cX0_back 15 = .ok (.invokevirtual 73, 3) := dk_182 0 73 (dk_at dksX0_back_0 15 rfl rfl)
theorem dX0_back_18 : decode cX0_back 18 = .ok (.ireturn, 1) := dk_172 (dk_at dksX0_back_0 18 rfl rfl)
theorem dX0_back_19 : decode cX0_back 19 = .ok (.aload_n 0, 1) := dk_42 (dk_at dksX0_back_0 19 rfl rfl)
theorem dX0_back_20 : decode cX0_back 20 = .ok (.getfield 10, 3) := dk_180 0 10 (dk_at dksX0_back_0 20 rfl rfl)
theorem dX0_back_23 : decode cX0_back 23 = .ok (.getfield 118, 3) := dk_180 0 118 (dk_at dksX0_back_1 0 rfl rfl)
theorem dX0_back_26 : decode cX0_back 26 = .ok (.getfield 291, 3) := dk_180 1 35 (dk_at dksX0_back_1 3 rfl rfl)
theorem dX0_back_29 : decode cX0_back 29 = .ok (.istore_n 2, 1) := dk_61 (dk_at dksX0_back_1 6 rfl rfl)
theorem dX0_back_30 : decode cX0_back 30 = .ok (.iconst (-1), 1) := dk_2 (dk_at dksX0_back_1 7 rfl rfl)
theorem dX0_back_31 : decode cX0_back 31 = .ok (.istore_n 3, 1) := dk_62 (dk_at dksX0_back_1 8 rfl rfl)
theorem dX0_back_32 : decode cX0_back 32 = .ok (.iconst 0, 1) := dk_3 (dk_at dksX0_back_1 9 rfl rfl)
theorem dX0_back_33 : decode cX0_back 33 = .ok (.istore 4, 2) := dk_54 4 (dk_at dksX0_back_1 10 rfl rfl)
theorem dX0_back_35 : decode cX0_back 35 = .ok (.iload 4, 2) := dk_21 4 (dk_at dksX0_back_1 12 rfl rfl)
theorem dX0_back_37 : decode cX0_back 37 = .ok (.bipush 30, 2) := dk_16 30 (dk_at dksX0_back_1 14 rfl rfl)
theorem dX0_back_39 : decode cX0_back 39 = .ok (.if_icmp .gt 59, 3) := dk_163 0 59 (dk_at dksX0_back_1 16 rfl rfl)
theorem dX0_back_42 : decode cX0_back 42 = .ok (.iload_n 3, 1) := dk_29 (dk_at dksX0_back_1 19 rfl rfl)
theorem dX0_back_43 : decode cX0_back 43 = .ok (.iconst (-1), 1) := dk_2 (dk_at dksX0_back_1 20 rfl rfl)
theorem dX0_back_44 : decode cX0_back 44 = .ok (.if_icmp .ne 54, 3) := dk_160 0 54 (dk_at dksX0_back_1 21 rfl rfl)
theorem dX0_back_47 : decode cX0_back 47 = .ok (.aload_n 0, 1) := dk_42 (dk_at dksX0_back_2 0 rfl rfl)
theorem dX0_back_48 : decode cX0_back 48 = .ok (.getfield 10, 3) := dk_180 0 10 (dk_at dksX0_back_2 1 rfl rfl)
theorem dX0_back_51 : decode cX0_back 51 = .ok (.getfield 118, 3) := dk_180 0 118 (dk_at dksX0_back_2 4 rfl rfl)
theorem dX0_back_54 : decode cX0_back 54 = .ok (.iload 4, 2) := dk_21 4 (dk_at dksX0_back_2 7 rfl rfl)
theorem dX0_back_56 : decode cX0_back 56 = .ok (.putfield 291, 3) := dk_181 1 35 (dk_at dksX0_back_2 9 rfl rfl)
theorem dX0_back_59 : decode cX0_back 59 = .ok (.aload_n 0, 1) := dk_42 (dk_at dksX0_back_2 12 rfl rfl)
theorem dX0_back_60 : decode cX0_back 60 = .ok (.aload_n 0, 1) := dk_42 (dk_at dksX0_back_2 13 rfl rfl)
theorem dX0_back_61 : decode cX0_back 61 = .ok (.getfield 10, 3) := dk_180 0 10 (dk_at dksX0_back_2 14 rfl rfl)
theorem dX0_back_64 : decode cX0_back 64 = .ok (.getfield 118, 3) := dk_180 0 118 (dk_at dksX0_back_2 17 rfl rfl)
theorem dX0_back_67 : decode cX0_back 67 = .ok (.invokevirtual 276, 3) := dk_182 1 20 (dk_at dksX0_back_2 20 rfl rfl)
theorem dX0_back_70 : decode cX0_back 70 = .ok (.aload_n 0, 1) := dk_42 (dk_at dksX0_back_2 23 rfl rfl)
theorem dX0_back_71 : decode cX0_back 71 = .ok (.getfield 47, 3) := dk_180 0 47 (dk_at dksX0_back_3 0 rfl rfl)
theorem dX0_back_74 : decode cX0_back 74 = .ok (.iconst 1, 1) := dk_4 (dk_at dksX0_back_3 3 rfl rfl)
theorem dX0_back_75 : decode cX0_back 75 = .ok (.laload, 1) := dk_47 (dk_at dksX0_back_3 4 rfl rfl)
theorem dX0_back_76 : decode cX0_back 76 = .ok (.iload_n 1, 1) := dk_27 (dk_at dksX0_back_3 5 rfl rfl)
theorem dX0_back_77 : decode cX0_back 77 = .ok (.aload_n 0, 1) := dk_42 (dk_at dksX0_back_3 6 rfl rfl)
theorem dX0_back_78 : decode cX0_back 78 = .ok (.getfield 47, 3) := dk_180 0 47 (dk_at dksX0_back_3 7 rfl rfl)
theorem dX0_back_81 : decode cX0_back 81 = .ok (.iconst 5, 1) := dk_8 (dk_at dksX0_back_3 10 rfl rfl)
theorem dX0_back_82 : decode cX0_back 82 = .ok (.laload, 1) := dk_47 (dk_at dksX0_back_3 11 rfl rfl)
theorem dX0_back_83 : decode cX0_back 83 = .ok (.invokestatic 294, 3) := dk_184 1 38 (dk_at dksX0_back_3 12 rfl rfl)
theorem dX0_back_86 : decode cX0_back 86 = .ok (.ifCond .eq 6, 3) := dk_153 0 6 (dk_at dksX0_back_3 15 rfl rfl)
theorem dX0_back_89 : decode cX0_back 89 = .ok (.iload 4, 2) := dk_21 4 (dk_at dksX0_back_3 18 rfl rfl)
theorem dX0_back_91 : decode cX0_back 91 = .ok (.istore_n 3, 1) := dk_62 (dk_at dksX0_back_3 20 rfl rfl)
theorem dX0_back_92 : decode cX0_back 92 = .ok (.iinc 4 1, 3) := dk_132 4 1 (dk_at dksX0_back_3 21 rfl rfl)
theorem dX0_back_95 : decode cX0_back 95 = .ok (.goto (-60), 3) := dk_167 255 196 (dk_at dksX0_back_4 0 rfl rfl)
theorem dX0_back_98 : decode cX0_back 98 = .ok (.aload_n 0, 1) := dk_42 (dk_at dksX0_back_4 3 rfl rfl)
theorem dX0_back_99 : decode cX0_back 99 = .ok (.getfield 10, 3) := dk_180 0 10 (dk_at dksX0_back_4 4 rfl rfl)
theorem dX0_back_102 : decode cX0_back 102 = .ok (.getfield 118, 3) := dk_180 0 118 (dk_at dksX0_back_4 7 rfl rfl)
theorem dX0_back_105 : decode cX0_back 105 = .ok (.iload_n 2, 1) := dk_28 (dk_at dksX0_back_4 10 rfl rfl)
theorem dX0_back_106 : decode cX0_back 106 = .ok (.putfield 291, 3) := dk_181 1 35 (dk_at dksX0_back_4 11 rfl rfl)
theorem dX0_back_109 : decode cX0_back 109 = .ok (.iload_n 3, 1) := dk_29 (dk_at dksX0_back_4 14 rfl rfl)
theorem dX0_back_110 : decode cX0_back 110 = .ok (.ireturn, 1) := dk_172 (dk_at dksX0_back_4 15 rfl rfl)
abbrev cX0_isAtMost : ByteArray := prog_1_method_34_code
def yX0_isAtMost : MethodName := ⟨RX0, "isAtMost", "(JIJ)Z"⟩
def dkwX0_isAtMost_1 : List UInt8 := [167, 0, 4, 3, 172, 30, 28, 133, 33, 20, 1, 33, 109, 105, 148, 157, 0, 7, 4, 167, 0, 4, 3, 172]
abbrev dktX0_isAtMost_1 : List UInt8 := dkwX0_isAtMost_1 ++ []
def dkwX0_isAtMost_0 : List UInt8 := [33, 20, 1, 33, 148, 156, 0, 22, 30, 20, 1, 33, 105, 28, 133, 33, 105, 148, 157, 0, 7, 4]
abbrev dktX0_isAtMost_0 : List UInt8 := dkwX0_isAtMost_0 ++ dktX0_isAtMost_1
theorem dksX0_isAtMost_0 : cX0_isAtMost.data.toList.drop 0 = dktX0_isAtMost_0 := by decide +kernel
theorem dksX0_isAtMost_1 : cX0_isAtMost.data.toList.drop 22 = dktX0_isAtMost_1 := dk_seg dksX0_isAtMost_0 22 rfl rfl
theorem dX0_isAtMost_0 : decode cX0_isAtMost 0 = .ok (.lload_n 3, 1) := dk_33 (dk_at dksX0_isAtMost_0 0 rfl rfl)
theorem dX0_isAtMost_1 : decode cX0_isAtMost 1 = .ok (.ldc2_w 289, 3) := dk_20 1 33 (dk_at dksX0_isAtMost_0 1 rfl rfl)
theorem dX0_isAtMost_4 : decode cX0_isAtMost 4 = .ok (.lcmp, 1) := dk_148 (dk_at dksX0_isAtMost_0 4 rfl rfl)
theorem dX0_isAtMost_5 : decode cX0_isAtMost 5 = .ok (.ifCond .ge 22, 3) := dk_156 0 22 (dk_at dksX0_isAtMost_0 5 rfl rfl)
theorem dX0_isAtMost_8 : decode cX0_isAtMost 8 = .ok (.lload_n 0, 1) := dk_30 (dk_at dksX0_isAtMost_0 8 rfl rfl)
theorem dX0_isAtMost_9 : decode cX0_isAtMost 9 = .ok (.ldc2_w 289, 3) := dk_20 1 33 (dk_at dksX0_isAtMost_0 9 rfl rfl)
theorem dX0_isAtMost_12 : decode cX0_isAtMost 12 = .ok (.lmul, 1) := dk_105 (dk_at dksX0_isAtMost_0 12 rfl rfl)
theorem dX0_isAtMost_13 : decode cX0_isAtMost 13 = .ok (.iload_n 2, 1) := dk_28 (dk_at dksX0_isAtMost_0 13 rfl rfl)
theorem dX0_isAtMost_14 : decode cX0_isAtMost 14 = .ok (.i2l, 1) := dk_133 (dk_at dksX0_isAtMost_0 14 rfl rfl)
theorem dX0_isAtMost_15 : decode cX0_isAtMost 15 = .ok (.lload_n 3, 1) := dk_33 (dk_at dksX0_isAtMost_0 15 rfl rfl)
theorem dX0_isAtMost_16 : decode cX0_isAtMost 16 = .ok (.lmul, 1) := dk_105 (dk_at dksX0_isAtMost_0 16 rfl rfl)
theorem dX0_isAtMost_17 : decode cX0_isAtMost 17 = .ok (.lcmp, 1) := dk_148 (dk_at dksX0_isAtMost_0 17 rfl rfl)
theorem dX0_isAtMost_18 : decode cX0_isAtMost 18 = .ok (.ifCond .gt 7, 3) := dk_157 0 7 (dk_at dksX0_isAtMost_0 18 rfl rfl)
theorem dX0_isAtMost_21 : decode cX0_isAtMost 21 = .ok (.iconst 1, 1) := dk_4 (dk_at dksX0_isAtMost_0 21 rfl rfl)
theorem dX0_isAtMost_22 : decode cX0_isAtMost 22 = .ok (.goto 4, 3) := dk_167 0 4 (dk_at dksX0_isAtMost_1 0 rfl rfl)
theorem dX0_isAtMost_25 : decode cX0_isAtMost 25 = .ok (.iconst 0, 1) := dk_3 (dk_at dksX0_isAtMost_1 3 rfl rfl)
theorem dX0_isAtMost_26 : decode cX0_isAtMost 26 = .ok (.ireturn, 1) := dk_172 (dk_at dksX0_isAtMost_1 4 rfl rfl)
theorem dX0_isAtMost_27 : decode cX0_isAtMost 27 = .ok (.lload_n 0, 1) := dk_30 (dk_at dksX0_isAtMost_1 5 rfl rfl)
theorem dX0_isAtMost_28 : decode cX0_isAtMost 28 = .ok (.iload_n 2, 1) := dk_28 (dk_at dksX0_isAtMost_1 6 rfl rfl)
theorem dX0_isAtMost_29 : decode cX0_isAtMost 29 = .ok (.i2l, 1) := dk_133 (dk_at dksX0_isAtMost_1 7 rfl rfl)
theorem dX0_isAtMost_30 : decode cX0_isAtMost 30 = .ok (.lload_n 3, 1) := dk_33 (dk_at dksX0_isAtMost_1 8 rfl rfl)
theorem dX0_isAtMost_31 : decode cX0_isAtMost 31 = .ok (.ldc2_w 289, 3) := dk_20 1 33 (dk_at dksX0_isAtMost_1 9 rfl rfl)
theorem dX0_isAtMost_34 : decode cX0_isAtMost 34 = .ok (.ldiv, 1) := dk_109 (dk_at dksX0_isAtMost_1 12 rfl rfl)
theorem dX0_isAtMost_35 : decode cX0_isAtMost 35 = .ok (.lmul, 1) := dk_105 (dk_at dksX0_isAtMost_1 13 rfl rfl)
theorem dX0_isAtMost_36 : decode cX0_isAtMost 36 = .ok (.lcmp, 1) := dk_148 (dk_at dksX0_isAtMost_1 14 rfl rfl)
theorem dX0_isAtMost_37 : decode cX0_isAtMost 37 = .ok (.ifCond .gt 7, 3) := dk_157 0 7 (dk_at dksX0_isAtMost_1 15 rfl rfl)
theorem dX0_isAtMost_40 : decode cX0_isAtMost 40 = .ok (.iconst 1, 1) := dk_4 (dk_at dksX0_isAtMost_1 18 rfl rfl)
theorem dX0_isAtMost_41 : decode cX0_isAtMost 41 = .ok (.goto 4, 3) := dk_167 0 4 (dk_at dksX0_isAtMost_1 19 rfl rfl)
theorem dX0_isAtMost_44 : decode cX0_isAtMost 44 = .ok (.iconst 0, 1) := dk_3 (dk_at dksX0_isAtMost_1 22 rfl rfl)
theorem dX0_isAtMost_45 : decode cX0_isAtMost 45 = .ok (.ireturn, 1) := dk_172 (dk_at dksX0_isAtMost_1 23 rfl rfl)
abbrev cX0_wise : ByteArray := prog_1_method_35_code
def yX0_wise : MethodName := ⟨RX0, "wise", "(I)I"⟩
def dkwX0_wise_6 : List UInt8 := [182, 0, 169, 21, 4, 172]
abbrev dktX0_wise_6 : List UInt8 := dkwX0_wise_6 ++ []
def dkwX0_wise_5 : List UInt8 := [180, 0, 47, 3, 47, 55, 5, 132, 7, 1, 167, 255, 180, 42, 180, 0, 10, 180, 0, 118, 28, 29]
abbrev dktX0_wise_5 : List UInt8 := dkwX0_wise_5 ++ dktX0_wise_6
def dkwX0_wise_4 : List UInt8 := [159, 0, 18, 42, 180, 0, 47, 3, 47, 22, 5, 148, 157, 0, 6, 167, 0, 15, 21, 7, 54, 4, 42]
abbrev dktX0_wise_4 : List UInt8 := dkwX0_wise_4 ++ dktX0_wise_5
def dkwX0_wise_3 : List UInt8 := [180, 0, 118, 28, 21, 7, 182, 0, 169, 42, 42, 180, 0, 10, 180, 0, 118, 182, 1, 20, 21, 4, 2]
abbrev dktX0_wise_3 : List UInt8 := dkwX0_wise_3 ++ dktX0_wise_4
def dkwX0_wise_2 : List UInt8 := [54, 7, 21, 7, 27, 154, 0, 8, 16, 60, 167, 0, 5, 16, 20, 163, 0, 66, 42, 180, 0, 10]
abbrev dktX0_wise_2 : List UInt8 := dkwX0_wise_2 ++ dktX0_wise_3
def dkwX0_wise_1 : List UInt8 := [167, 0, 4, 4, 61, 42, 180, 0, 10, 180, 0, 118, 28, 182, 0, 167, 62, 2, 54, 4, 9, 55, 5, 3]
abbrev dktX0_wise_1 : List UInt8 := dkwX0_wise_1 ++ dktX0_wise_2
def dkwX0_wise_0 : List UInt8 := [27, 133, 9, 10, 184, 0, 81, 154, 0, 10, 42, 16, 254, 182, 0, 73, 172, 27, 154, 0, 7, 5]
abbrev dktX0_wise_0 : List UInt8 := dkwX0_wise_0 ++ dktX0_wise_1
theorem dksX0_wise_0 : cX0_wise.data.toList.drop 0 = dktX0_wise_0 := by decide +kernel
theorem dksX0_wise_1 : cX0_wise.data.toList.drop 22 = dktX0_wise_1 := dk_seg dksX0_wise_0 22 rfl rfl
theorem dksX0_wise_2 : cX0_wise.data.toList.drop 46 = dktX0_wise_2 := dk_seg dksX0_wise_1 24 rfl rfl
theorem dksX0_wise_3 : cX0_wise.data.toList.drop 68 = dktX0_wise_3 := dk_seg dksX0_wise_2 22 rfl rfl
theorem dksX0_wise_4 : cX0_wise.data.toList.drop 91 = dktX0_wise_4 := dk_seg dksX0_wise_3 23 rfl rfl
theorem dksX0_wise_5 : cX0_wise.data.toList.drop 114 = dktX0_wise_5 := dk_seg dksX0_wise_4 23 rfl rfl
theorem dksX0_wise_6 : cX0_wise.data.toList.drop 136 = dktX0_wise_6 := dk_seg dksX0_wise_5 22 rfl rfl
theorem dX0_wise_0 : decode cX0_wise 0 = .ok (.iload_n 1, 1) := dk_27 (dk_at dksX0_wise_0 0 rfl rfl)
theorem dX0_wise_1 : decode cX0_wise 1 = .ok (.i2l, 1) := dk_133 (dk_at dksX0_wise_0 1 rfl rfl)
theorem dX0_wise_2 : decode cX0_wise 2 = .ok (.lconst 0, 1) := dk_9 (dk_at dksX0_wise_0 2 rfl rfl)
theorem dX0_wise_3 : decode cX0_wise 3 = .ok (.lconst 1, 1) := dk_10 (dk_at dksX0_wise_0 3 rfl rfl)
theorem dX0_wise_4 : decode cX0_wise 4 = .ok (.invokestatic 81, 3) := dk_184 0 81 (dk_at dksX0_wise_0 4 rfl rfl)
theorem dX0_wise_7 : decode cX0_wise 7 = .ok (.ifCond .ne 10, 3) := dk_154 0 10 (dk_at dksX0_wise_0 7 rfl rfl)
theorem dX0_wise_10 : decode cX0_wise 10 = .ok (.aload_n 0, 1) := dk_42 (dk_at dksX0_wise_0 10 rfl rfl)
theorem dX0_wise_11 : decode cX0_wise 11 = .ok (.bipush (-2), 2) := dk_16 254 (dk_at dksX0_wise_0 11 rfl rfl)
theorem dX0_wise_13 : decode cX0_wise 13 = .ok (.invokevirtual 73, 3) := dk_182 0 73 (dk_at dksX0_wise_0 13 rfl rfl)
theorem dX0_wise_16 : decode cX0_wise 16 = .ok (.ireturn, 1) := dk_172 (dk_at dksX0_wise_0 16 rfl rfl)
theorem dX0_wise_17 : decode cX0_wise 17 = .ok (.iload_n 1, 1) := dk_27 (dk_at dksX0_wise_0 17 rfl rfl)
theorem dX0_wise_18 : decode cX0_wise 18 = .ok (.ifCond .ne 7, 3) := dk_154 0 7 (dk_at dksX0_wise_0 18 rfl rfl)
theorem dX0_wise_21 : decode cX0_wise 21 = .ok (.iconst 2, 1) := dk_5 (dk_at dksX0_wise_0 21 rfl rfl)
theorem dX0_wise_22 : decode cX0_wise 22 = .ok (.goto 4, 3) := dk_167 0 4 (dk_at dksX0_wise_1 0 rfl rfl)
theorem dX0_wise_25 : decode cX0_wise 25 = .ok (.iconst 1, 1) := dk_4 (dk_at dksX0_wise_1 3 rfl rfl)
theorem dX0_wise_26 : decode cX0_wise 26 = .ok (.istore_n 2, 1) := dk_61 (dk_at dksX0_wise_1 4 rfl rfl)
theorem dX0_wise_27 : decode cX0_wise 27 = .ok (.aload_n 0, 1) := dk_42 (dk_at dksX0_wise_1 5 rfl rfl)
theorem dX0_wise_28 : decode cX0_wise 28 = .ok (.getfield 10, 3) := dk_180 0 10 (dk_at dksX0_wise_1 6 rfl rfl)
theorem dX0_wise_31 : decode cX0_wise 31 = .ok (.getfield 118, 3) := dk_180 0 118 (dk_at dksX0_wise_1 9 rfl rfl)
theorem dX0_wise_34 : decode cX0_wise 34 = .ok (.iload_n 2, 1) := dk_28 (dk_at dksX0_wise_1 12 rfl rfl)
theorem dX0_wise_35 : decode cX0_wise 35 = .ok (.invokevirtual 167, 3) := dk_182 0 167 (dk_at dksX0_wise_1 13 rfl rfl)
theorem dX0_wise_38 : decode cX0_wise 38 = .ok (.istore_n 3, 1) := dk_62 (dk_at dksX0_wise_1 16 rfl rfl)
theorem dX0_wise_39 : decode cX0_wise 39 = .ok (.iconst (-1), 1) := dk_2 (dk_at dksX0_wise_1 17 rfl rfl)
theorem dX0_wise_40 : decode cX0_wise 40 = .ok (.istore 4, 2) := dk_54 4 (dk_at dksX0_wise_1 18 rfl rfl)
theorem dX0_wise_42 : decode cX0_wise 42 = .ok (.lconst 0, 1) := dk_9 (dk_at dksX0_wise_1 20 rfl rfl)
theorem dX0_wise_43 : decode cX0_wise 43 = .ok (.lstore 5, 2) := dk_55 5 (dk_at dksX0_wise_1 21 rfl rfl)
theorem dX0_wise_45 : decode cX0_wise 45 = .ok (.iconst 0, 1) := dk_3 (dk_at dksX0_wise_1 23 rfl rfl)
theorem dX0_wise_46 : decode cX0_wise 46 = .ok (.istore 7, 2) := dk_54 7 (dk_at dksX0_wise_2 0 rfl rfl)
theorem dX0_wise_48 : decode cX0_wise 48 = .ok (.iload 7, 2) := dk_21 7 (dk_at dksX0_wise_2 2 rfl rfl)
theorem dX0_wise_50 : decode cX0_wise 50 = .ok (.iload_n 1, 1) := dk_27 (dk_at dksX0_wise_2 4 rfl rfl)
theorem dX0_wise_51 : decode cX0_wise 51 = .ok (.ifCond .ne 8, 3) := dk_154 0 8 (dk_at dksX0_wise_2 5 rfl rfl)
theorem dX0_wise_54 : decode cX0_wise 54 = .ok (.bipush 60, 2) := dk_16 60 (dk_at dksX0_wise_2 8 rfl rfl)
theorem dX0_wise_56 : decode cX0_wise 56 = .ok (.goto 5, 3) := dk_167 0 5 (dk_at dksX0_wise_2 10 rfl rfl)
theorem dX0_wise_59 : decode cX0_wise 59 = .ok (.bipush 20, 2) := dk_16 20 (dk_at dksX0_wise_2 13 rfl rfl)
theorem dX0_wise_61 : decode cX0_wise 61 = .ok (.if_icmp .gt 66, 3) := dk_163 0 66 (dk_at dksX0_wise_2 15 rfl rfl)
theorem dX0_wise_64 : decode cX0_wise 64 = .ok (.aload_n 0, 1) := dk_42 (dk_at dksX0_wise_2 18 rfl rfl)
theorem dX0_wise_65 : decode cX0_wise 65 = .ok (.getfield 10, 3) := dk_180 0 10 (dk_at dksX0_wise_2 19 rfl rfl)
theorem dX0_wise_68 : decode cX0_wise 68 = .ok (.getfield 118, 3) := dk_180 0 118 (dk_at dksX0_wise_3 0 rfl rfl)
theorem dX0_wise_71 : decode cX0_wise 71 = .ok (.iload_n 2, 1) := dk_28 (dk_at dksX0_wise_3 3 rfl rfl)
theorem dX0_wise_72 : decode cX0_wise 72 = .ok (.iload 7, 2) := dk_21 7 (dk_at dksX0_wise_3 4 rfl rfl)
theorem dX0_wise_74 : decode cX0_wise 74 = .ok (.invokevirtual 169, 3) := dk_182 0 169 (dk_at dksX0_wise_3 6 rfl rfl)
theorem dX0_wise_77 : decode cX0_wise 77 = .ok (.aload_n 0, 1) := dk_42 (dk_at dksX0_wise_3 9 rfl rfl)
theorem dX0_wise_78 : decode cX0_wise 78 = .ok (.aload_n 0, 1) := dk_42 (dk_at dksX0_wise_3 10 rfl rfl)
theorem dX0_wise_79 : decode cX0_wise 79 = .ok (.getfield 10, 3) := dk_180 0 10 (dk_at dksX0_wise_3 11 rfl rfl)
theorem dX0_wise_82 : decode cX0_wise 82 = .ok (.getfield 118, 3) := dk_180 0 118 (dk_at dksX0_wise_3 14 rfl rfl)
theorem dX0_wise_85 : decode cX0_wise 85 = .ok (.invokevirtual 276, 3) := dk_182 1 20 (dk_at dksX0_wise_3 17 rfl rfl)
theorem dX0_wise_88 : decode cX0_wise 88 = .ok (.iload 4, 2) := dk_21 4 (dk_at dksX0_wise_3 20 rfl rfl)
theorem dX0_wise_90 : decode cX0_wise 90 = .ok (.iconst (-1), 1) := dk_2 (dk_at dksX0_wise_3 22 rfl rfl)
theorem dX0_wise_91 : decode cX0_wise 91 = .ok (.if_icmp .eq 18, 3) := dk_159 0 18 (dk_at dksX0_wise_4 0 rfl rfl)
theorem dX0_wise_94 : decode cX0_wise 94 = .ok (.aload_n 0, 1) := dk_42 (dk_at dksX0_wise_4 3 rfl rfl)
theorem dX0_wise_95 : decode cX0_wise 95 = .ok (.getfield 47, 3) := dk_180 0 47 (dk_at dksX0_wise_4 4 rfl rfl)
theorem dX0_wise_98 : decode cX0_wise 98 = .ok (.iconst 0, 1) := dk_3 (dk_at dksX0_wise_4 7 rfl rfl)
theorem dX0_wise_99 : decode cX0_wise 99 = .ok (.laload, 1) := dk_47 (dk_at dksX0_wise_4 8 rfl rfl)
theorem dX0_wise_100 : decode cX0_wise 100 = .ok (.lload 5, 2) := dk_22 5 (dk_at dksX0_wise_4 9 rfl rfl)
theorem dX0_wise_102 : decode cX0_wise 102 = .ok (.lcmp, 1) := dk_148 (dk_at dksX0_wise_4 11 rfl rfl)
theorem dX0_wise_103 : decode cX0_wise 103 = .ok (.ifCond .gt 6, 3) := dk_157 0 6 (dk_at dksX0_wise_4 12 rfl rfl)
theorem dX0_wise_106 : decode cX0_wise 106 = .ok (.goto 15, 3) := dk_167 0 15 (dk_at dksX0_wise_4 15 rfl rfl)
theorem dX0_wise_109 : decode cX0_wise 109 = .ok (.iload 7, 2) := dk_21 7 (dk_at dksX0_wise_4 18 rfl rfl)
theorem dX0_wise_111 : decode cX0_wise 111 = .ok (.istore 4, 2) := dk_54 4 (dk_at dksX0_wise_4 20 rfl rfl)
theorem dX0_wise_113 : decode cX0_wise 113 = .ok (.aload_n 0, 1) := dk_42 (dk_at dksX0_wise_4 22 rfl rfl)
theorem dX0_wise_114 : decode cX0_wise 114 = .ok (.getfield 47, 3) := dk_180 0 47 (dk_at dksX0_wise_5 0 rfl rfl)
theorem dX0_wise_117 : decode cX0_wise 117 = .ok (.iconst 0, 1) := dk_3 (dk_at dksX0_wise_5 3 rfl rfl)
theorem dX0_wise_118 : decode cX0_wise 118 = .ok (.laload, 1) := dk_47 (dk_at dksX0_wise_5 4 rfl rfl)
theorem dX0_wise_119 : decode cX0_wise 119 = .ok (.lstore 5, 2) := dk_55 5 (dk_at dksX0_wise_5 5 rfl rfl)
theorem dX0_wise_121 : decode cX0_wise 121 = .ok (.iinc 7 1, 3) := dk_132 7 1 (dk_at dksX0_wise_5 7 rfl rfl)
theorem dX0_wise_124 : decode cX0_wise 124 = .ok (.goto (-76), 3) := dk_167 255 180 (dk_at dksX0_wise_5 10 rfl rfl)
theorem dX0_wise_127 : decode cX0_wise 127 = .ok (.aload_n 0, 1) := dk_42 (dk_at dksX0_wise_5 13 rfl rfl)
theorem dX0_wise_128 : decode cX0_wise 128 = .ok (.getfield 10, 3) := dk_180 0 10 (dk_at dksX0_wise_5 14 rfl rfl)
theorem dX0_wise_131 : decode cX0_wise 131 = .ok (.getfield 118, 3) := dk_180 0 118 (dk_at dksX0_wise_5 17 rfl rfl)
theorem dX0_wise_134 : decode cX0_wise 134 = .ok (.iload_n 2, 1) := dk_28 (dk_at dksX0_wise_5 20 rfl rfl)
theorem dX0_wise_135 : decode cX0_wise 135 = .ok (.iload_n 3, 1) := dk_29 (dk_at dksX0_wise_5 21 rfl rfl)
theorem dX0_wise_136 : decode cX0_wise 136 = .ok (.invokevirtual 169, 3) := dk_182 0 169 (dk_at dksX0_wise_6 0 rfl rfl)
theorem dX0_wise_139 : decode cX0_wise 139 = .ok (.iload 4, 2) := dk_21 4 (dk_at dksX0_wise_6 3 rfl rfl)
theorem dX0_wise_141 : decode cX0_wise 141 = .ok (.ireturn, 1) := dk_172 (dk_at dksX0_wise_6 5 rfl rfl)
abbrev cX0_blame : ByteArray := prog_1_method_36_code
def yX0_blame : MethodName := ⟨RX0, "blame", "(II)J"⟩
def dkwX0_blame_2 : List UInt8 := [167, 0, 9, 42, 180, 0, 54, 27, 47, 173]
abbrev dktX0_blame_2 : List UInt8 := dkwX0_blame_2 ++ []
def dkwX0_blame_1 : List UInt8 := [133, 173, 42, 42, 180, 0, 10, 180, 0, 118, 182, 1, 20, 28, 154, 0, 12, 42, 180, 0, 51, 27, 47]
abbrev dktX0_blame_1 : List UInt8 := dkwX0_blame_1 ++ dktX0_blame_2
def dkwX0_blame_0 : List UInt8 := [42, 27, 182, 0, 127, 153, 0, 13, 28, 133, 9, 10, 184, 0, 81, 154, 0, 11, 42, 16, 254, 182, 0, 73]
abbrev dktX0_blame_0 : List UInt8 := dkwX0_blame_0 ++ dktX0_blame_1
theorem dksX0_blame_0 : cX0_blame.data.toList.drop 0 = dktX0_blame_0 := by decide +kernel
theorem dksX0_blame_1 : cX0_blame.data.toList.drop 24 = dktX0_blame_1 := dk_seg dksX0_blame_0 24 rfl rfl
theorem dksX0_blame_2 : cX0_blame.data.toList.drop 47 = dktX0_blame_2 := dk_seg dksX0_blame_1 23 rfl rfl
theorem dX0_blame_0 : decode cX0_blame 0 = .ok (.aload_n 0, 1) := dk_42 (dk_at dksX0_blame_0 0 rfl rfl)
theorem dX0_blame_1 : decode cX0_blame 1 = .ok (.iload_n 1, 1) := dk_27 (dk_at dksX0_blame_0 1 rfl rfl)
theorem dX0_blame_2 : decode cX0_blame 2 = .ok (.invokevirtual 127, 3) := dk_182 0 127 (dk_at dksX0_blame_0 2 rfl rfl)
theorem dX0_blame_5 : decode cX0_blame 5 = .ok (.ifCond .eq 13, 3) := dk_153 0 13 (dk_at dksX0_blame_0 5 rfl rfl)
theorem dX0_blame_8 : decode cX0_blame 8 = .ok (.iload_n 2, 1) := dk_28 (dk_at dksX0_blame_0 8 rfl rfl)
theorem dX0_blame_9 : decode cX0_blame 9 = .ok (.i2l, 1) := dk_133 (dk_at dksX0_blame_0 9 rfl rfl)
theorem dX0_blame_10 : decode cX0_blame 10 = .ok (.lconst 0, 1) := dk_9 (dk_at dksX0_blame_0 10 rfl rfl)
theorem dX0_blame_11 : decode cX0_blame 11 = .ok (.lconst 1, 1) := dk_10 (dk_at dksX0_blame_0 11 rfl rfl)
theorem dX0_blame_12 : decode cX0_blame 12 = .ok (.invokestatic 81, 3) := dk_184 0 81 (dk_at dksX0_blame_0 12 rfl rfl)
theorem dX0_blame_15 : decode cX0_blame 15 = .ok (.ifCond .ne 11, 3) := dk_154 0 11 (dk_at dksX0_blame_0 15 rfl rfl)
theorem dX0_blame_18 : decode cX0_blame 18 = .ok (.aload_n 0, 1) := dk_42 (dk_at dksX0_blame_0 18 rfl rfl)
theorem dX0_blame_19 : decode cX0_blame 19 = .ok (.bipush (-2), 2) := dk_16 254 (dk_at dksX0_blame_0 19 rfl rfl)
theorem dX0_blame_21 : decode cX0_blame 21 = .ok (.invokevirtual 73, 3) := dk_182 0 73 (dk_at dksX0_blame_0 21 rfl rfl)
theorem dX0_blame_24 : decode cX0_blame 24 = .ok (.i2l, 1) := dk_133 (dk_at dksX0_blame_1 0 rfl rfl)
theorem dX0_blame_25 : decode cX0_blame 25 = .ok (.lreturn, 1) := dk_173 (dk_at dksX0_blame_1 1 rfl rfl)
theorem dX0_blame_26 : decode cX0_blame 26 = .ok (.aload_n 0, 1) := dk_42 (dk_at dksX0_blame_1 2 rfl rfl)
theorem dX0_blame_27 : decode cX0_blame 27 = .ok (.aload_n 0, 1) := dk_42 (dk_at dksX0_blame_1 3 rfl rfl)
theorem dX0_blame_28 : decode cX0_blame 28 = .ok (.getfield 10, 3) := dk_180 0 10 (dk_at dksX0_blame_1 4 rfl rfl)
theorem dX0_blame_31 : decode cX0_blame 31 = .ok (.getfield 118, 3) := dk_180 0 118 (dk_at dksX0_blame_1 7 rfl rfl)
theorem dX0_blame_34 : decode cX0_blame 34 = .ok (.invokevirtual 276, 3) := dk_182 1 20 (dk_at dksX0_blame_1 10 rfl rfl)
theorem dX0_blame_37 : decode cX0_blame 37 = .ok (.iload_n 2, 1) := dk_28 (dk_at dksX0_blame_1 13 rfl rfl)
theorem dX0_blame_38 : decode cX0_blame 38 = .ok (.ifCond .ne 12, 3) := dk_154 0 12 (dk_at dksX0_blame_1 14 rfl rfl)
theorem dX0_blame_41 : decode cX0_blame 41 = .ok (.aload_n 0, 1) := dk_42 (dk_at dksX0_blame_1 17 rfl rfl)
theorem dX0_blame_42 : decode cX0_blame 42 = .ok (.getfield 51, 3) := dk_180 0 51 (dk_at dksX0_blame_1 18 rfl rfl)
theorem dX0_blame_45 : decode cX0_blame 45 = .ok (.iload_n 1, 1) := dk_27 (dk_at dksX0_blame_1 21 rfl rfl)
theorem dX0_blame_46 : decode cX0_blame 46 = .ok (.laload, 1) := dk_47 (dk_at dksX0_blame_1 22 rfl rfl)
theorem dX0_blame_47 : decode cX0_blame 47 = .ok (.goto 9, 3) := dk_167 0 9 (dk_at dksX0_blame_2 0 rfl rfl)
theorem dX0_blame_50 : decode cX0_blame 50 = .ok (.aload_n 0, 1) := dk_42 (dk_at dksX0_blame_2 3 rfl rfl)
theorem dX0_blame_51 : decode cX0_blame 51 = .ok (.getfield 54, 3) := dk_180 0 54 (dk_at dksX0_blame_2 4 rfl rfl)
theorem dX0_blame_54 : decode cX0_blame 54 = .ok (.iload_n 1, 1) := dk_27 (dk_at dksX0_blame_2 7 rfl rfl)
theorem dX0_blame_55 : decode cX0_blame 55 = .ok (.laload, 1) := dk_47 (dk_at dksX0_blame_2 8 rfl rfl)
theorem dX0_blame_56 : decode cX0_blame 56 = .ok (.lreturn, 1) := dk_173 (dk_at dksX0_blame_2 9 rfl rfl)
abbrev cX0_mean : ByteArray := prog_1_method_38_code
def yX0_mean : MethodName := ⟨RX0, "mean", "(I)J"⟩
def dkwX0_mean_2 : List UInt8 := [47, 42, 180, 0, 47, 6, 47, 42, 180, 0, 47, 8, 47, 184, 1, 42, 109, 173]
abbrev dktX0_mean_2 : List UInt8 := dkwX0_mean_2 ++ []
def dkwX0_mean_1 : List UInt8 := [180, 0, 118, 182, 1, 20, 27, 154, 0, 12, 42, 180, 0, 47, 6, 47, 167, 0, 9, 42, 180, 0, 47, 8]
abbrev dktX0_mean_1 : List UInt8 := dkwX0_mean_1 ++ dktX0_mean_2
def dkwX0_mean_0 : List UInt8 := [27, 133, 9, 10, 184, 0, 81, 154, 0, 11, 42, 16, 254, 182, 0, 73, 133, 173, 42, 42, 180, 0, 10]
abbrev dktX0_mean_0 : List UInt8 := dkwX0_mean_0 ++ dktX0_mean_1
theorem dksX0_mean_0 : cX0_mean.data.toList.drop 0 = dktX0_mean_0 := by decide +kernel
theorem dksX0_mean_1 : cX0_mean.data.toList.drop 23 = dktX0_mean_1 := dk_seg dksX0_mean_0 23 rfl rfl
theorem dksX0_mean_2 : cX0_mean.data.toList.drop 47 = dktX0_mean_2 := dk_seg dksX0_mean_1 24 rfl rfl
theorem dX0_mean_0 : decode cX0_mean 0 = .ok (.iload_n 1, 1) := dk_27 (dk_at dksX0_mean_0 0 rfl rfl)
theorem dX0_mean_1 : decode cX0_mean 1 = .ok (.i2l, 1) := dk_133 (dk_at dksX0_mean_0 1 rfl rfl)
theorem dX0_mean_2 : decode cX0_mean 2 = .ok (.lconst 0, 1) := dk_9 (dk_at dksX0_mean_0 2 rfl rfl)
theorem dX0_mean_3 : decode cX0_mean 3 = .ok (.lconst 1, 1) := dk_10 (dk_at dksX0_mean_0 3 rfl rfl)
theorem dX0_mean_4 : decode cX0_mean 4 = .ok (.invokestatic 81, 3) := dk_184 0 81 (dk_at dksX0_mean_0 4 rfl rfl)
theorem dX0_mean_7 : decode cX0_mean 7 = .ok (.ifCond .ne 11, 3) := dk_154 0 11 (dk_at dksX0_mean_0 7 rfl rfl)
theorem dX0_mean_10 : decode cX0_mean 10 = .ok (.aload_n 0, 1) := dk_42 (dk_at dksX0_mean_0 10 rfl rfl)
theorem dX0_mean_11 : decode cX0_mean 11 = .ok (.bipush (-2), 2) := dk_16 254 (dk_at dksX0_mean_0 11 rfl rfl)
theorem dX0_mean_13 : decode cX0_mean 13 = .ok (.invokevirtual 73, 3) := dk_182 0 73 (dk_at dksX0_mean_0 13 rfl rfl)
theorem dX0_mean_16 : decode cX0_mean 16 = .ok (.i2l, 1) := dk_133 (dk_at dksX0_mean_0 16 rfl rfl)
theorem dX0_mean_17 : decode cX0_mean 17 = .ok (.lreturn, 1) := dk_173 (dk_at dksX0_mean_0 17 rfl rfl)
theorem dX0_mean_18 : decode cX0_mean 18 = .ok (.aload_n 0, 1) := dk_42 (dk_at dksX0_mean_0 18 rfl rfl)
theorem dX0_mean_19 : decode cX0_mean 19 = .ok (.aload_n 0, 1) := dk_42 (dk_at dksX0_mean_0 19 rfl rfl)
theorem dX0_mean_20 : decode cX0_mean 20 = .ok (.getfield 10, 3) := dk_180 0 10 (dk_at dksX0_mean_0 20 rfl rfl)
theorem dX0_mean_23 : decode cX0_mean 23 = .ok (.getfield 118, 3) := dk_180 0 118 (dk_at dksX0_mean_1 0 rfl rfl)
theorem dX0_mean_26 : decode cX0_mean 26 = .ok (.invokevirtual 276, 3) := dk_182 1 20 (dk_at dksX0_mean_1 3 rfl rfl)
theorem dX0_mean_29 : decode cX0_mean 29 = .ok (.iload_n 1, 1) := dk_27 (dk_at dksX0_mean_1 6 rfl rfl)
theorem dX0_mean_30 : decode cX0_mean 30 = .ok (.ifCond .ne 12, 3) := dk_154 0 12 (dk_at dksX0_mean_1 7 rfl rfl)
theorem dX0_mean_33 : decode cX0_mean 33 = .ok (.aload_n 0, 1) := dk_42 (dk_at dksX0_mean_1 10 rfl rfl)
theorem dX0_mean_34 : decode cX0_mean 34 = .ok (.getfield 47, 3) := dk_180 0 47 (dk_at dksX0_mean_1 11 rfl rfl)
theorem dX0_mean_37 : decode cX0_mean 37 = .ok (.iconst 3, 1) := dk_6 (dk_at dksX0_mean_1 14 rfl rfl)
theorem dX0_mean_38 : decode cX0_mean 38 = .ok (.laload, 1) := dk_47 (dk_at dksX0_mean_1 15 rfl rfl)
theorem dX0_mean_39 : decode cX0_mean 39 = .ok (.goto 9, 3) := dk_167 0 9 (dk_at dksX0_mean_1 16 rfl rfl)
theorem dX0_mean_42 : decode cX0_mean 42 = .ok (.aload_n 0, 1) := dk_42 (dk_at dksX0_mean_1 19 rfl rfl)
theorem dX0_mean_43 : decode cX0_mean 43 = .ok (.getfield 47, 3) := dk_180 0 47 (dk_at dksX0_mean_1 20 rfl rfl)
theorem dX0_mean_46 : decode cX0_mean 46 = .ok (.iconst 5, 1) := dk_8 (dk_at dksX0_mean_1 23 rfl rfl)
theorem dX0_mean_47 : decode cX0_mean 47 = .ok (.laload, 1) := dk_47 (dk_at dksX0_mean_2 0 rfl rfl)
theorem dX0_mean_48 : decode cX0_mean 48 = .ok (.aload_n 0, 1) := dk_42 (dk_at dksX0_mean_2 1 rfl rfl)
theorem dX0_mean_49 : decode cX0_mean 49 = .ok (.getfield 47, 3) := dk_180 0 47 (dk_at dksX0_mean_2 2 rfl rfl)
theorem dX0_mean_52 : decode cX0_mean 52 = .ok (.iconst 3, 1) := dk_6 (dk_at dksX0_mean_2 5 rfl rfl)
theorem dX0_mean_53 : decode cX0_mean 53 = .ok (.laload, 1) := dk_47 (dk_at dksX0_mean_2 6 rfl rfl)
theorem dX0_mean_54 : decode cX0_mean 54 = .ok (.aload_n 0, 1) := dk_42 (dk_at dksX0_mean_2 7 rfl rfl)
theorem dX0_mean_55 : decode cX0_mean 55 = .ok (.getfield 47, 3) := dk_180 0 47 (dk_at dksX0_mean_2 8 rfl rfl)
theorem dX0_mean_58 : decode cX0_mean 58 = .ok (.iconst 5, 1) := dk_8 (dk_at dksX0_mean_2 11 rfl rfl)
theorem dX0_mean_59 : decode cX0_mean 59 = .ok (.laload, 1) := dk_47 (dk_at dksX0_mean_2 12 rfl rfl)
theorem dX0_mean_60 : decode cX0_mean 60 = .ok (.invokestatic 298, 3) := dk_184 1 42 (dk_at dksX0_mean_2 13 rfl rfl)
theorem dX0_mean_63 : decode cX0_mean 63 = .ok (.ldiv, 1) := dk_109 (dk_at dksX0_mean_2 16 rfl rfl)
theorem dX0_mean_64 : decode cX0_mean 64 = .ok (.lreturn, 1) := dk_173 (dk_at dksX0_mean_2 17 rfl rfl)
abbrev cX0_commonOf : ByteArray := prog_1_method_37_code
def yX0_commonOf : MethodName := ⟨RX0, "commonOf", "(JJ)J"⟩
def dkwX0_commonOf_0 : List UInt8 := [32, 9, 148, 154, 0, 7, 30, 167, 0, 10, 32, 30, 32, 113, 184, 1, 42, 173]
abbrev dktX0_commonOf_0 : List UInt8 := dkwX0_commonOf_0 ++ []
theorem dksX0_commonOf_0 : cX0_commonOf.data.toList.drop 0 = dktX0_commonOf_0 := by decide +kernel
theorem dX0_commonOf_0 : decode cX0_commonOf 0 = .ok (.lload_n 2, 1) := dk_32 (dk_at dksX0_commonOf_0 0 rfl rfl)
theorem dX0_commonOf_1 : decode cX0_commonOf 1 = .ok (.lconst 0, 1) := dk_9 (dk_at dksX0_commonOf_0 1 rfl rfl)
theorem dX0_commonOf_2 : decode cX0_commonOf 2 = .ok (.lcmp, 1) := dk_148 (dk_at dksX0_commonOf_0 2 rfl rfl)
theorem dX0_commonOf_3 : decode cX0_commonOf 3 = .ok (.ifCond .ne 7, 3) := dk_154 0 7 (dk_at dksX0_commonOf_0 3 rfl rfl)
theorem dX0_commonOf_6 : decode cX0_commonOf 6 = .ok (.lload_n 0, 1) := dk_30 (dk_at dksX0_commonOf_0 6 rfl rfl)
theorem dX0_commonOf_7 : decode cX0_commonOf 7 = .ok (.goto 10, 3) := dk_167 0 10 (dk_at dksX0_commonOf_0 7 rfl rfl)
theorem dX0_commonOf_10 : decode cX0_commonOf 10 = .ok (.lload_n 2, 1) := dk_32 (dk_at dksX0_commonOf_0 10 rfl rfl)
theorem dX0_commonOf_11 : decode cX0_commonOf 11 = .ok (.lload_n 0, 1) := dk_30 (dk_at dksX0_commonOf_0 11 rfl rfl)
theorem dX0_commonOf_12 : decode cX0_commonOf 12 = .ok (.lload_n 2, 1) := dk_32 (dk_at dksX0_commonOf_0 12 rfl rfl)
theorem dX0_commonOf_13 : decode cX0_commonOf 13 = .ok (.lrem, 1) := dk_113 (dk_at dksX0_commonOf_0 13 rfl rfl)
theorem dX0_commonOf_14 : decode cX0_commonOf 14 = .ok (.invokestatic 298, 3) := dk_184 1 42 (dk_at dksX0_commonOf_0 14 rfl rfl)
theorem dX0_commonOf_17 : decode cX0_commonOf 17 = .ok (.lreturn, 1) := dk_173 (dk_at dksX0_commonOf_0 17 rfl rfl)
abbrev cX0_repeals : ByteArray := prog_1_method_39_code
def yX0_repeals : MethodName := ⟨RX0, "repeals", "(I)J"⟩
def dkwX0_repeals_5 : List UInt8 := [180, 0, 156, 182, 1, 24, 22, 4, 101, 55, 6, 42, 180, 0, 10, 44, 181, 0, 108, 22, 6, 173]
abbrev dktX0_repeals_5 : List UInt8 := dkwX0_repeals_5 ++ []
def dkwX0_repeals_4 : List UInt8 := [180, 0, 156, 182, 1, 24, 55, 4, 42, 180, 0, 10, 45, 181, 0, 108, 42, 42, 180, 0, 10, 180, 0, 118]
abbrev dktX0_repeals_4 : List UInt8 := dkwX0_repeals_4 ++ dktX0_repeals_5
def dkwX0_repeals_3 : List UInt8 := [182, 0, 133, 192, 0, 173, 182, 1, 48, 87, 132, 4, 1, 167, 255, 224, 42, 42, 180, 0, 10, 180, 0, 118]
abbrev dktX0_repeals_3 : List UInt8 := dkwX0_repeals_3 ++ dktX0_repeals_4
def dkwX0_repeals_2 : List UInt8 := [3, 54, 4, 21, 4, 44, 182, 0, 109, 162, 0, 29, 21, 4, 27, 159, 0, 17, 45, 44, 21, 4]
abbrev dktX0_repeals_2 : List UInt8 := dkwX0_repeals_2 ++ dktX0_repeals_3
def dkwX0_repeals_1 : List UInt8 := [16, 254, 182, 0, 73, 133, 173, 42, 180, 0, 10, 180, 0, 108, 77, 187, 0, 110, 89, 5, 183, 1, 46, 78]
abbrev dktX0_repeals_1 : List UInt8 := dkwX0_repeals_1 ++ dktX0_repeals_2
def dkwX0_repeals_0 : List UInt8 := [27, 133, 9, 42, 180, 0, 10, 180, 0, 108, 182, 0, 109, 4, 100, 133, 184, 0, 81, 154, 0, 11, 42]
abbrev dktX0_repeals_0 : List UInt8 := dkwX0_repeals_0 ++ dktX0_repeals_1
theorem dksX0_repeals_0 : cX0_repeals.data.toList.drop 0 = dktX0_repeals_0 := by decide +kernel
theorem dksX0_repeals_1 : cX0_repeals.data.toList.drop 23 = dktX0_repeals_1 := dk_seg dksX0_repeals_0 23 rfl rfl
theorem dksX0_repeals_2 : cX0_repeals.data.toList.drop 47 = dktX0_repeals_2 := dk_seg dksX0_repeals_1 24 rfl rfl
theorem dksX0_repeals_3 : cX0_repeals.data.toList.drop 69 = dktX0_repeals_3 := dk_seg dksX0_repeals_2 22 rfl rfl
theorem dksX0_repeals_4 : cX0_repeals.data.toList.drop 93 = dktX0_repeals_4 := dk_seg dksX0_repeals_3 24 rfl rfl
theorem dksX0_repeals_5 : cX0_repeals.data.toList.drop 117 = dktX0_repeals_5 := dk_seg dksX0_repeals_4 24 rfl rfl
theorem dX0_repeals_0 : decode cX0_repeals 0 = .ok (.iload_n 1, 1) := dk_27 (dk_at dksX0_repeals_0 0 rfl rfl)
theorem dX0_repeals_1 : decode cX0_repeals 1 = .ok (.i2l, 1) := dk_133 (dk_at dksX0_repeals_0 1 rfl rfl)
theorem dX0_repeals_2 : decode cX0_repeals 2 = .ok (.lconst 0, 1) := dk_9 (dk_at dksX0_repeals_0 2 rfl rfl)
theorem dX0_repeals_3 : decode cX0_repeals 3 = .ok (.aload_n 0, 1) := dk_42 (dk_at dksX0_repeals_0 3 rfl rfl)
theorem dX0_repeals_4 : decode cX0_repeals 4 = .ok (.getfield 10, 3) := dk_180 0 10 (dk_at dksX0_repeals_0 4 rfl rfl)
theorem dX0_repeals_7 : decode cX0_repeals 7 = .ok (.getfield 108, 3) := dk_180 0 108 (dk_at dksX0_repeals_0 7 rfl rfl)
theorem dX0_repeals_10 : decode cX0_repeals 10 = .ok (.invokevirtual 109, 3) := dk_182 0 109 (dk_at dksX0_repeals_0 10 rfl rfl)
theorem dX0_repeals_13 : decode cX0_repeals 13 = .ok (.iconst 1, 1) := dk_4 (dk_at dksX0_repeals_0 13 rfl rfl)
theorem dX0_repeals_14 : decode cX0_repeals 14 = .ok (.isub, 1) := dk_100 (dk_at dksX0_repeals_0 14 rfl rfl)
theorem dX0_repeals_15 : decode cX0_repeals 15 = .ok (.i2l, 1) := dk_133 (dk_at dksX0_repeals_0 15 rfl rfl)
theorem dX0_repeals_16 : decode cX0_repeals 16 = .ok (.invokestatic 81, 3) := dk_184 0 81 (dk_at dksX0_repeals_0 16 rfl rfl)
theorem dX0_repeals_19 : decode cX0_repeals 19 = .ok (.ifCond .ne 11, 3) := dk_154 0 11 (dk_at dksX0_repeals_0 19 rfl rfl)
theorem dX0_repeals_22 : decode cX0_repeals 22 = .ok (.aload_n 0, 1) := dk_42 (dk_at dksX0_repeals_0 22 rfl rfl)
theorem dX0_repeals_23 : decode cX0_repeals 23 = .ok (.bipush (-2), 2) := dk_16 254 (dk_at dksX0_repeals_1 0 rfl rfl)
theorem dX0_repeals_25 : decode cX0_repeals 25 = .ok (.invokevirtual 73, 3) := dk_182 0 73 (dk_at dksX0_repeals_1 2 rfl rfl)
theorem dX0_repeals_28 : decode cX0_repeals 28 = .ok (.i2l, 1) := dk_133 (dk_at dksX0_repeals_1 5 rfl rfl)
theorem dX0_repeals_29 : decode cX0_repeals 29 = .ok (.lreturn, 1) := dk_173 (dk_at dksX0_repeals_1 6 rfl rfl)
theorem dX0_repeals_30 : decode cX0_repeals 30 = .ok (.aload_n 0, 1) := dk_42 (dk_at dksX0_repeals_1 7 rfl rfl)
theorem dX0_repeals_31 : decode cX0_repeals 31 = .ok (.getfield 10, 3) := dk_180 0 10 (dk_at dksX0_repeals_1 8 rfl rfl)
theorem dX0_repeals_34 : decode cX0_repeals 34 = .ok (.getfield 108, 3) := dk_180 0 108 (dk_at dksX0_repeals_1 11 rfl rfl)
theorem dX0_repeals_37 : decode cX0_repeals 37 = .ok (.astore_n 2, 1) := dk_77 (dk_at dksX0_repeals_1 14 rfl rfl)
theorem dX0_repeals_38 : decode cX0_repeals 38 = .ok (.new 110, 3) := dk_187 0 110 (dk_at dksX0_repeals_1 15 rfl rfl)
theorem dX0_repeals_41 : decode cX0_repeals 41 = .ok (.dup, 1) := dk_89 (dk_at dksX0_repeals_1 18 rfl rfl)
theorem dX0_repeals_42 : decode cX0_repeals 42 = .ok (.iconst 2, 1) := dk_5 (dk_at dksX0_repeals_1 19 rfl rfl)
theorem dX0_repeals_43 : decode cX0_repeals 43 = .ok (.invokespecial 302, 3) := dk_183 1 46 (dk_at dksX0_repeals_1 20 rfl rfl)
theorem dX0_repeals_46 : decode cX0_repeals 46 = .ok (.astore_n 3, 1) := dk_78 (dk_at dksX0_repeals_1 23 rfl rfl)
theorem dX0_repeals_47 : decode cX0_repeals 47 = .ok (.iconst 0, 1) := dk_3 (dk_at dksX0_repeals_2 0 rfl rfl)
theorem dX0_repeals_48 : decode cX0_repeals 48 = .ok (.istore 4, 2) := dk_54 4 (dk_at dksX0_repeals_2 1 rfl rfl)
theorem dX0_repeals_50 : decode cX0_repeals 50 = .ok (.iload 4, 2) := dk_21 4 (dk_at dksX0_repeals_2 3 rfl rfl)
theorem dX0_repeals_52 : decode cX0_repeals 52 = .ok (.aload_n 2, 1) := dk_44 (dk_at dksX0_repeals_2 5 rfl rfl)
theorem dX0_repeals_53 : decode cX0_repeals 53 = .ok (.invokevirtual 109, 3) := dk_182 0 109 (dk_at dksX0_repeals_2 6 rfl rfl)
theorem dX0_repeals_56 : decode cX0_repeals 56 = .ok (.if_icmp .ge 29, 3) := dk_162 0 29 (dk_at dksX0_repeals_2 9 rfl rfl)
theorem dX0_repeals_59 : decode cX0_repeals 59 = .ok (.iload 4, 2) := dk_21 4 (dk_at dksX0_repeals_2 12 rfl rfl)
theorem dX0_repeals_61 : decode cX0_repeals 61 = .ok (.iload_n 1, 1) := dk_27 (dk_at dksX0_repeals_2 14 rfl rfl)
theorem dX0_repeals_62 : decode cX0_repeals 62 = .ok (.if_icmp .eq 17, 3) := dk_159 0 17 (dk_at dksX0_repeals_2 15 rfl rfl)
theorem dX0_repeals_65 : decode cX0_repeals 65 = .ok (.aload_n 3, 1) := dk_45 (dk_at dksX0_repeals_2 18 rfl rfl)
theorem dX0_repeals_66 : decode cX0_repeals 66 = .ok (.aload_n 2, 1) := dk_44 (dk_at dksX0_repeals_2 19 rfl rfl)
theorem dX0_repeals_67 : decode cX0_repeals 67 = .ok (.iload 4, 2) := dk_21 4 (dk_at dksX0_repeals_2 20 rfl rfl)
theorem dX0_repeals_69 : decode cX0_repeals 69 = .ok (.invokevirtual 133, 3) := dk_182 0 133 (dk_at dksX0_repeals_3 0 rfl rfl)
theorem dX0_repeals_72 : decode cX0_repeals 72 = .ok (.checkcast 173, 3) := dk_192 0 173 (dk_at dksX0_repeals_3 3 rfl rfl)
theorem dX0_repeals_75 : decode cX0_repeals 75 = .ok (.invokevirtual 304, 3) := dk_182 1 48 (dk_at dksX0_repeals_3 6 rfl rfl)
theorem dX0_repeals_78 : decode cX0_repeals 78 = .ok (.pop, 1) := dk_87 (dk_at dksX0_repeals_3 9 rfl rfl)
theorem dX0_repeals_79 : decode cX0_repeals 79 = .ok (.iinc 4 1, 3) := dk_132 4 1 (dk_at dksX0_repeals_3 10 rfl rfl)
theorem dX0_repeals_82 : decode cX0_repeals 82 = .ok (.goto (-32), 3) := dk_167 255 224 (dk_at dksX0_repeals_3 13 rfl rfl)
theorem dX0_repeals_85 : decode cX0_repeals 85 = .ok (.aload_n 0, 1) := dk_42 (dk_at dksX0_repeals_3 16 rfl rfl)
theorem dX0_repeals_86 : decode cX0_repeals 86 = .ok (.aload_n 0, 1) := dk_42 (dk_at dksX0_repeals_3 17 rfl rfl)
theorem dX0_repeals_87 : decode cX0_repeals 87 = .ok (.getfield 10, 3) := dk_180 0 10 (dk_at dksX0_repeals_3 18 rfl rfl)
theorem dX0_repeals_90 : decode cX0_repeals 90 = .ok (.getfield 118, 3) := dk_180 0 118 (dk_at dksX0_repeals_3 21 rfl rfl)
theorem dX0_repeals_93 : decode cX0_repeals 93 = .ok (.getfield 156, 3) := dk_180 0 156 (dk_at dksX0_repeals_4 0 rfl rfl)
theorem dX0_repeals_96 : decode cX0_repeals 96 = .ok (.invokevirtual 280, 3) := dk_182 1 24 (dk_at dksX0_repeals_4 3 rfl rfl)
theorem dX0_repeals_99 : decode cX0_repeals 99 = .ok (.lstore 4, 2) := dk_55 4 (dk_at dksX0_repeals_4 6 rfl rfl)
theorem dX0_repeals_101 : decode cX0_repeals 101 = .ok (.aload_n 0, 1) := dk_42 (dk_at dksX0_repeals_4 8 rfl rfl)
theorem dX0_repeals_102 : decode cX0_repeals 102 = .ok (.getfield 10, 3) := dk_180 0 10 (dk_at dksX0_repeals_4 9 rfl rfl)
theorem dX0_repeals_105 : decode cX0_repeals 105 = .ok (.aload_n 3, 1) := dk_45 (dk_at dksX0_repeals_4 12 rfl rfl)
theorem dX0_repeals_106 : decode cX0_repeals 106 = .ok (.putfield 108, 3) := dk_181 0 108 (dk_at dksX0_repeals_4 13 rfl rfl)
theorem dX0_repeals_109 : decode cX0_repeals 109 = .ok (.aload_n 0, 1) := dk_42 (dk_at dksX0_repeals_4 16 rfl rfl)
theorem dX0_repeals_110 : decode cX0_repeals 110 = .ok (.aload_n 0, 1) := dk_42 (dk_at dksX0_repeals_4 17 rfl rfl)
theorem dX0_repeals_111 : decode cX0_repeals 111 = .ok (.getfield 10, 3) := dk_180 0 10 (dk_at dksX0_repeals_4 18 rfl rfl)
theorem dX0_repeals_114 : decode cX0_repeals 114 = .ok (.getfield 118, 3) := dk_180 0 118 (dk_at dksX0_repeals_4 21 rfl rfl)
theorem dX0_repeals_117 : decode cX0_repeals 117 = .ok (.getfield 156, 3) := dk_180 0 156 (dk_at dksX0_repeals_5 0 rfl rfl)
theorem dX0_repeals_120 : decode cX0_repeals 120 = .ok (.invokevirtual 280, 3) := dk_182 1 24 (dk_at dksX0_repeals_5 3 rfl rfl)
theorem dX0_repeals_123 : decode cX0_repeals 123 = .ok (.lload 4, 2) := dk_22 4 (dk_at dksX0_repeals_5 6 rfl rfl)
theorem dX0_repeals_125 : decode cX0_repeals 125 = .ok (.lsub, 1) := dk_101 (dk_at dksX0_repeals_5 8 rfl rfl)
theorem dX0_repeals_126 : decode cX0_repeals 126 = .ok (.lstore 6, 2) := dk_55 6 (dk_at dksX0_repeals_5 9 rfl rfl)
theorem dX0_repeals_128 : decode cX0_repeals 128 = .ok (.aload_n 0, 1) := dk_42 (dk_at dksX0_repeals_5 11 rfl rfl)
theorem dX0_repeals_129 : decode cX0_repeals 129 = .ok (.getfield 10, 3) := dk_180 0 10 (dk_at dksX0_repeals_5 12 rfl rfl)
theorem dX0_repeals_132 : decode cX0_repeals 132 = .ok (.aload_n 2, 1) := dk_44 (dk_at dksX0_repeals_5 15 rfl rfl)
theorem dX0_repeals_133 : decode cX0_repeals 133 = .ok (.putfield 108, 3) := dk_181 0 108 (dk_at dksX0_repeals_5 16 rfl rfl)
theorem dX0_repeals_136 : decode cX0_repeals 136 = .ok (.lload 6, 2) := dk_22 6 (dk_at dksX0_repeals_5 19 rfl rfl)
theorem dX0_repeals_138 : decode cX0_repeals 138 = .ok (.lreturn, 1) := dk_173 (dk_at dksX0_repeals_5 21 rfl rfl)
abbrev cX0_absent : ByteArray := prog_1_method_40_code
def yX0_absent : MethodName := ⟨RX0, "absent", "(I)J"⟩
def dkwX0_absent_3 : List UInt8 := [32, 101, 173]
abbrev dktX0_absent_3 : List UInt8 := dkwX0_absent_3 ++ []
def dkwX0_absent_2 : List UInt8 := [180, 0, 124, 27, 182, 1, 56, 87, 42, 25, 4, 182, 1, 20, 20, 1, 7, 42, 180, 0, 47, 4, 47, 105]
abbrev dktX0_absent_2 : List UInt8 := dkwX0_absent_2 ++ dktX0_absent_3
def dkwX0_absent_1 : List UInt8 := [182, 1, 20, 42, 180, 0, 47, 4, 47, 65, 42, 180, 0, 10, 180, 0, 118, 182, 1, 52, 58, 4, 25, 4]
abbrev dktX0_absent_1 : List UInt8 := dkwX0_absent_1 ++ dktX0_absent_2
def dkwX0_absent_0 : List UInt8 := [42, 27, 182, 0, 127, 154, 0, 11, 42, 16, 254, 182, 0, 73, 133, 173, 42, 42, 180, 0, 10, 180, 0, 118]
abbrev dktX0_absent_0 : List UInt8 := dkwX0_absent_0 ++ dktX0_absent_1
theorem dksX0_absent_0 : cX0_absent.data.toList.drop 0 = dktX0_absent_0 := by decide +kernel
theorem dksX0_absent_1 : cX0_absent.data.toList.drop 24 = dktX0_absent_1 := dk_seg dksX0_absent_0 24 rfl rfl
theorem dksX0_absent_2 : cX0_absent.data.toList.drop 48 = dktX0_absent_2 := dk_seg dksX0_absent_1 24 rfl rfl
theorem dksX0_absent_3 : cX0_absent.data.toList.drop 72 = dktX0_absent_3 := dk_seg dksX0_absent_2 24 rfl rfl
theorem dX0_absent_0 : decode cX0_absent 0 = .ok (.aload_n 0, 1) := dk_42 (dk_at dksX0_absent_0 0 rfl rfl)
theorem dX0_absent_1 : decode cX0_absent 1 = .ok (.iload_n 1, 1) := dk_27 (dk_at dksX0_absent_0 1 rfl rfl)
theorem dX0_absent_2 : decode cX0_absent 2 = .ok (.invokevirtual 127, 3) := dk_182 0 127 (dk_at dksX0_absent_0 2 rfl rfl)
theorem dX0_absent_5 : decode cX0_absent 5 = .ok (.ifCond .ne 11, 3) := dk_154 0 11 (dk_at dksX0_absent_0 5 rfl rfl)
theorem dX0_absent_8 : decode cX0_absent 8 = .ok (.aload_n 0, 1) := dk_42 (dk_at dksX0_absent_0 8 rfl rfl)
theorem dX0_absent_9 : decode cX0_absent 9 = .ok (.bipush (-2), 2) := dk_16 254 (dk_at dksX0_absent_0 9 rfl rfl)
theorem dX0_absent_11 : decode cX0_absent 11 = .ok (.invokevirtual 73, 3) := dk_182 0 73 (dk_at dksX0_absent_0 11 rfl rfl)
theorem dX0_absent_14 : decode cX0_absent 14 = .ok (.i2l, 1) := dk_133 (dk_at dksX0_absent_0 14 rfl rfl)
theorem dX0_absent_15 : decode cX0_absent 15 = .ok (.lreturn, 1) := dk_173 (dk_at dksX0_absent_0 15 rfl rfl)
theorem dX0_absent_16 : decode cX0_absent 16 = .ok (.aload_n 0, 1) := dk_42 (dk_at dksX0_absent_0 16 rfl rfl)
theorem dX0_absent_17 : decode cX0_absent 17 = .ok (.aload_n 0, 1) := dk_42 (dk_at dksX0_absent_0 17 rfl rfl)
theorem dX0_absent_18 : decode cX0_absent 18 = .ok (.getfield 10, 3) := dk_180 0 10 (dk_at dksX0_absent_0 18 rfl rfl)
theorem dX0_absent_21 : decode cX0_absent 21 = .ok (.getfield 118, 3) := dk_180 0 118 (dk_at dksX0_absent_0 21 rfl rfl)
theorem dX0_absent_24 : decode cX0_absent 24 = .ok (.invokevirtual 276, 3) := dk_182 1 20 (dk_at dksX0_absent_1 0 rfl rfl)
theorem dX0_absent_27 : decode cX0_absent 27 = .ok (.aload_n 0, 1) := dk_42 (dk_at dksX0_absent_1 3 rfl rfl)
theorem dX0_absent_28 : decode cX0_absent 28 = .ok (.getfield 47, 3) := dk_180 0 47 (dk_at dksX0_absent_1 4 rfl rfl)
theorem dX0_absent_31 : decode cX0_absent 31 = .ok (.iconst 1, 1) := dk_4 (dk_at dksX0_absent_1 7 rfl rfl)
theorem dX0_absent_32 : decode cX0_absent 32 = .ok (.laload, 1) := dk_47 (dk_at dksX0_absent_1 8 rfl rfl)
theorem dX0_absent_33 : decode cX0_absent 33 = .ok (.lstore_n 2, 1) := dk_65 (dk_at dksX0_absent_1 9 rfl rfl)
theorem dX0_absent_34 : decode cX0_absent 34 = .ok (.aload_n 0, 1) := dk_42 (dk_at dksX0_absent_1 10 rfl rfl)
theorem dX0_absent_35 : decode cX0_absent 35 = .ok (.getfield 10, 3) := dk_180 0 10 (dk_at dksX0_absent_1 11 rfl rfl)
theorem dX0_absent_38 : decode cX0_absent 38 = .ok (.getfield 118, 3) := dk_180 0 118 (dk_at dksX0_absent_1 14 rfl rfl)
theorem dX0_absent_41 : decode cX0_absent 41 = .ok (.invokevirtual 308, 3) := dk_182 1 52 (dk_at dksX0_absent_1 17 rfl rfl)
theorem dX0_absent_44 : decode cX0_absent 44 = .ok (.astore 4, 2) := dk_58 4 (dk_at dksX0_absent_1 20 rfl rfl)
theorem dX0_absent_46 : decode cX0_absent 46 = .ok (.aload 4, 2) := dk_25 4 (dk_at dksX0_absent_1 22 rfl rfl)
theorem dX0_absent_48 : decode cX0_absent 48 = .ok (.getfield 124, 3) := dk_180 0 124 (dk_at dksX0_absent_2 0 rfl rfl)
theorem dX0_absent_51 : decode cX0_absent 51 = .ok (.iload_n 1, 1) := dk_27 (dk_at dksX0_absent_2 3 rfl rfl)
theorem dX0_absent_52 : decode cX0_absent 52 = .ok (.invokevirtual 312, 3) := dk_182 1 56 (dk_at dksX0_absent_2 4 rfl rfl)
theorem dX0_absent_55 : decode cX0_absent 55 = .ok (.pop, 1) := dk_87 (dk_at dksX0_absent_2 7 rfl rfl)
theorem dX0_absent_56 : decode cX0_absent 56 = .ok (.aload_n 0, 1) := dk_42 (dk_at dksX0_absent_2 8 rfl rfl)
theorem dX0_absent_57 : decode cX0_absent 57 = .ok (.aload 4, 2) := dk_25 4 (dk_at dksX0_absent_2 9 rfl rfl)
theorem dX0_absent_59 : decode cX0_absent 59 = .ok (.invokevirtual 276, 3) := dk_182 1 20 (dk_at dksX0_absent_2 11 rfl rfl)
theorem dX0_absent_62 : decode cX0_absent 62 = .ok (.ldc2_w 263, 3) := dk_20 1 7 (dk_at dksX0_absent_2 14 rfl rfl)
theorem dX0_absent_65 : decode cX0_absent 65 = .ok (.aload_n 0, 1) := dk_42 (dk_at dksX0_absent_2 17 rfl rfl)
theorem dX0_absent_66 : decode cX0_absent 66 = .ok (.getfield 47, 3) := dk_180 0 47 (dk_at dksX0_absent_2 18 rfl rfl)
theorem dX0_absent_69 : decode cX0_absent 69 = .ok (.iconst 1, 1) := dk_4 (dk_at dksX0_absent_2 21 rfl rfl)
theorem dX0_absent_70 : decode cX0_absent 70 = .ok (.laload, 1) := dk_47 (dk_at dksX0_absent_2 22 rfl rfl)
theorem dX0_absent_71 : decode cX0_absent 71 = .ok (.lmul, 1) := dk_105 (dk_at dksX0_absent_2 23 rfl rfl)
theorem dX0_absent_72 : decode cX0_absent 72 = .ok (.lload_n 2, 1) := dk_32 (dk_at dksX0_absent_3 0 rfl rfl)
theorem dX0_absent_73 : decode cX0_absent 73 = .ok (.lsub, 1) := dk_101 (dk_at dksX0_absent_3 1 rfl rfl)
theorem dX0_absent_74 : decode cX0_absent 74 = .ok (.lreturn, 1) := dk_173 (dk_at dksX0_absent_3 2 rfl rfl)
abbrev cX0_margin : ByteArray := prog_1_method_42_code
def yX0_margin : MethodName := ⟨RX0, "margin", "(I)I"⟩
def dkwX0_margin_3 : List UInt8 := [184, 1, 66, 61, 167, 255, 205, 28, 172]
abbrev dktX0_margin_3 : List UInt8 := dkwX0_margin_3 ++ []
def dkwX0_margin_2 : List UInt8 := [182, 1, 63, 62, 29, 2, 160, 0, 7, 28, 167, 0, 17, 28, 2, 160, 0, 7, 29, 167, 0, 8, 28, 29]
abbrev dktX0_margin_2 : List UInt8 := dkwX0_margin_2 ++ dktX0_margin_3
def dkwX0_margin_1 : List UInt8 := [180, 0, 35, 180, 0, 218, 154, 0, 47, 42, 42, 180, 0, 35, 182, 0, 224, 42, 42, 180, 0, 35]
abbrev dktX0_margin_1 : List UInt8 := dkwX0_margin_1 ++ dktX0_margin_2
def dkwX0_margin_0 : List UInt8 := [42, 180, 0, 35, 42, 180, 0, 10, 180, 0, 118, 182, 0, 188, 87, 42, 27, 181, 0, 200, 2, 61, 42]
abbrev dktX0_margin_0 : List UInt8 := dkwX0_margin_0 ++ dktX0_margin_1
theorem dksX0_margin_0 : cX0_margin.data.toList.drop 0 = dktX0_margin_0 := by decide +kernel
theorem dksX0_margin_1 : cX0_margin.data.toList.drop 23 = dktX0_margin_1 := dk_seg dksX0_margin_0 23 rfl rfl
theorem dksX0_margin_2 : cX0_margin.data.toList.drop 45 = dktX0_margin_2 := dk_seg dksX0_margin_1 22 rfl rfl
theorem dksX0_margin_3 : cX0_margin.data.toList.drop 69 = dktX0_margin_3 := dk_seg dksX0_margin_2 24 rfl rfl
theorem dX0_margin_0 : decode cX0_margin 0 = .ok (.aload_n 0, 1) := dk_42 (dk_at dksX0_margin_0 0 rfl rfl)
theorem dX0_margin_1 : decode cX0_margin 1 = .ok (.getfield 35, 3) := dk_180 0 35 (dk_at dksX0_margin_0 1 rfl rfl)
theorem dX0_margin_4 : decode cX0_margin 4 = .ok (.aload_n 0, 1) := dk_42 (dk_at dksX0_margin_0 4 rfl rfl)
theorem dX0_margin_5 : decode cX0_margin 5 = .ok (.getfield 10, 3) := dk_180 0 10 (dk_at dksX0_margin_0 5 rfl rfl)
theorem dX0_margin_8 : decode cX0_margin 8 = .ok (.getfield 118, 3) := dk_180 0 118 (dk_at dksX0_margin_0 8 rfl rfl)
theorem dX0_margin_11 : decode cX0_margin 11 = .ok (.invokevirtual 188, 3) := dk_182 0 188 (dk_at dksX0_margin_0 11 rfl rfl)
theorem dX0_margin_14 : decode cX0_margin 14 = .ok (.pop, 1) := dk_87 (dk_at dksX0_margin_0 14 rfl rfl)
theorem dX0_margin_15 : decode cX0_margin 15 = .ok (.aload_n 0, 1) := dk_42 (dk_at dksX0_margin_0 15 rfl rfl)
theorem dX0_margin_16 : decode cX0_margin 16 = .ok (.iload_n 1, 1) := dk_27 (dk_at dksX0_margin_0 16 rfl rfl)
theorem dX0_margin_17 : decode cX0_margin 17 = .ok (.putfield 200, 3) := dk_181 0 200 (dk_at dksX0_margin_0 17 rfl rfl)
theorem dX0_margin_20 : decode cX0_margin 20 = .ok (.iconst (-1), 1) := dk_2 (dk_at dksX0_margin_0 20 rfl rfl)
theorem dX0_margin_21 : decode cX0_margin 21 = .ok (.istore_n 2, 1) := dk_61 (dk_at dksX0_margin_0 21 rfl rfl)
theorem dX0_margin_22 : decode cX0_margin 22 = .ok (.aload_n 0, 1) := dk_42 (dk_at dksX0_margin_0 22 rfl rfl)
theorem dX0_margin_23 : decode cX0_margin 23 = .ok (.getfield 35, 3) := dk_180 0 35 (dk_at dksX0_margin_1 0 rfl rfl)
theorem dX0_margin_26 : decode cX0_margin 26 = .ok (.getfield 218, 3) := dk_180 0 218 (dk_at dksX0_margin_1 3 rfl rfl)
theorem dX0_margin_29 : decode cX0_margin 29 = .ok (.ifCond .ne 47, 3) := dk_154 0 47 (dk_at dksX0_margin_1 6 rfl rfl)
theorem dX0_margin_32 : decode cX0_margin 32 = .ok (.aload_n 0, 1) := dk_42 (dk_at dksX0_margin_1 9 rfl rfl)
theorem dX0_margin_33 : decode cX0_margin 33 = .ok (.aload_n 0, 1) := dk_42 (dk_at dksX0_margin_1 10 rfl rfl)
theorem dX0_margin_34 : decode cX0_margin 34 = .ok (.getfield 35, 3) := dk_180 0 35 (dk_at dksX0_margin_1 11 rfl rfl)
theorem dX0_margin_37 : decode cX0_margin 37 = .ok (.invokevirtual 224, 3) := dk_182 0 224 (dk_at dksX0_margin_1 14 rfl rfl)
theorem dX0_margin_40 : decode cX0_margin 40 = .ok (.aload_n 0, 1) := dk_42 (dk_at dksX0_margin_1 17 rfl rfl)
theorem dX0_margin_41 : decode cX0_margin 41 = .ok (.aload_n 0, 1) := dk_42 (dk_at dksX0_margin_1 18 rfl rfl)
theorem dX0_margin_42 : decode cX0_margin 42 = .ok (.getfield 35, 3) := dk_180 0 35 (dk_at dksX0_margin_1 19 rfl rfl)
theorem dX0_margin_45 : decode cX0_margin 45 = .ok (.invokevirtual 319, 3) := dk_182 1 63 (dk_at dksX0_margin_2 0 rfl rfl)
theorem dX0_margin_48 : decode cX0_margin 48 = .ok (.istore_n 3, 1) := dk_62 (dk_at dksX0_margin_2 3 rfl rfl)
theorem dX0_margin_49 : decode cX0_margin 49 = .ok (.iload_n 3, 1) := dk_29 (dk_at dksX0_margin_2 4 rfl rfl)
theorem dX0_margin_50 : decode cX0_margin 50 = .ok (.iconst (-1), 1) := dk_2 (dk_at dksX0_margin_2 5 rfl rfl)
theorem dX0_margin_51 : decode cX0_margin 51 = .ok (.if_icmp .ne 7, 3) := dk_160 0 7 (dk_at dksX0_margin_2 6 rfl rfl)
theorem dX0_margin_54 : decode cX0_margin 54 = .ok (.iload_n 2, 1) := dk_28 (dk_at dksX0_margin_2 9 rfl rfl)
theorem dX0_margin_55 : decode cX0_margin 55 = .ok (.goto 17, 3) := dk_167 0 17 (dk_at dksX0_margin_2 10 rfl rfl)
theorem dX0_margin_58 : decode cX0_margin 58 = .ok (.iload_n 2, 1) := dk_28 (dk_at dksX0_margin_2 13 rfl rfl)
theorem dX0_margin_59 : decode cX0_margin 59 = .ok (.iconst (-1), 1) := dk_2 (dk_at dksX0_margin_2 14 rfl rfl)
theorem dX0_margin_60 : decode cX0_margin 60 = .ok (.if_icmp .ne 7, 3) := dk_160 0 7 (dk_at dksX0_margin_2 15 rfl rfl)
theorem dX0_margin_63 : decode cX0_margin 63 = .ok (.iload_n 3, 1) := dk_29 (dk_at dksX0_margin_2 18 rfl rfl)
theorem dX0_margin_64 : decode cX0_margin 64 = .ok (.goto 8, 3) := dk_167 0 8 (dk_at dksX0_margin_2 19 rfl rfl)
theorem dX0_margin_67 : decode cX0_margin 67 = .ok (.iload_n 2, 1) := dk_28 (dk_at dksX0_margin_2 22 rfl rfl)
theorem dX0_margin_68 : decode cX0_margin 68 = .ok (.iload_n 3, 1) := dk_29 (dk_at dksX0_margin_2 23 rfl rfl)
theorem dX0_margin_69 : decode cX0_margin 69 = .ok (.invokestatic 322, 3) := dk_184 1 66 (dk_at dksX0_margin_3 0 rfl rfl)
theorem dX0_margin_72 : decode cX0_margin 72 = .ok (.istore_n 2, 1) := dk_61 (dk_at dksX0_margin_3 3 rfl rfl)
theorem dX0_margin_73 : decode cX0_margin 73 = .ok (.goto (-51), 3) := dk_167 255 205 (dk_at dksX0_margin_3 4 rfl rfl)
theorem dX0_margin_76 : decode cX0_margin 76 = .ok (.iload_n 2, 1) := dk_28 (dk_at dksX0_margin_3 7 rfl rfl)
theorem dX0_margin_77 : decode cX0_margin 77 = .ok (.ireturn, 1) := dk_172 (dk_at dksX0_margin_3 8 rfl rfl)
abbrev cX0_off : ByteArray := prog_1_method_41_code
def yX0_off : MethodName := ⟨RX0, "off", "(LFootOut$Walk;)I"⟩
def dkwX0_off_3 : List UInt8 := [172]
abbrev dktX0_off_3 : List UInt8 := dkwX0_off_3 ++ []
def dkwX0_off_2 : List UInt8 := [43, 180, 0, 249, 29, 46, 28, 162, 0, 10, 43, 180, 0, 249, 29, 46, 61, 132, 3, 1, 167, 255, 192, 28]
abbrev dktX0_off_2 : List UInt8 := dkwX0_off_2 ++ dktX0_off_3
def dkwX0_off_1 : List UInt8 := [180, 0, 139, 43, 180, 1, 1, 160, 0, 34, 43, 180, 0, 249, 29, 46, 158, 0, 25, 28, 2, 159, 0, 13]
abbrev dktX0_off_1 : List UInt8 := dkwX0_off_1 ++ dktX0_off_2
def dkwX0_off_0 : List UInt8 := [2, 61, 3, 62, 29, 43, 182, 0, 203, 162, 0, 62, 43, 180, 1, 4, 158, 0, 55, 43, 29, 182, 1, 59]
abbrev dktX0_off_0 : List UInt8 := dkwX0_off_0 ++ dktX0_off_1
theorem dksX0_off_0 : cX0_off.data.toList.drop 0 = dktX0_off_0 := by decide +kernel
theorem dksX0_off_1 : cX0_off.data.toList.drop 24 = dktX0_off_1 := dk_seg dksX0_off_0 24 rfl rfl
theorem dksX0_off_2 : cX0_off.data.toList.drop 48 = dktX0_off_2 := dk_seg dksX0_off_1 24 rfl rfl
theorem dksX0_off_3 : cX0_off.data.toList.drop 72 = dktX0_off_3 := dk_seg dksX0_off_2 24 rfl rfl
theorem dX0_off_0 : decode cX0_off 0 = .ok (.iconst (-1), 1) := dk_2 (dk_at dksX0_off_0 0 rfl rfl)
theorem dX0_off_1 : decode cX0_off 1 = .ok (.istore_n 2, 1) := dk_61 (dk_at dksX0_off_0 1 rfl rfl)
theorem dX0_off_2 : decode cX0_off 2 = .ok (.iconst 0, 1) := dk_3 (dk_at dksX0_off_0 2 rfl rfl)
theorem dX0_off_3 : decode cX0_off 3 = .ok (.istore_n 3, 1) := dk_62 (dk_at dksX0_off_0 3 rfl rfl)
theorem dX0_off_4 : decode cX0_off 4 = .ok (.iload_n 3, 1) := dk_29 (dk_at dksX0_off_0 4 rfl rfl)
theorem dX0_off_5 : decode cX0_off 5 = .ok (.aload_n 1, 1) := dk_43 (dk_at dksX0_off_0 5 rfl rfl)
theorem dX0_off_6 : decode cX0_off 6 = .ok (.invokevirtual 203, 3) := dk_182 0 203 (dk_at dksX0_off_0 6 rfl rfl)
theorem dX0_off_9 : decode cX0_off 9 = .ok (.if_icmp .ge 62, 3) := dk_162 0 62 (dk_at dksX0_off_0 9 rfl rfl)
theorem dX0_off_12 : decode cX0_off 12 = .ok (.aload_n 1, 1) := dk_43 (dk_at dksX0_off_0 12 rfl rfl)
theorem dX0_off_13 : decode cX0_off 13 = .ok (.getfield 260, 3) := dk_180 1 4 (dk_at dksX0_off_0 13 rfl rfl)
theorem dX0_off_16 : decode cX0_off 16 = .ok (.ifCond .le 55, 3) := dk_158 0 55 (dk_at dksX0_off_0 16 rfl rfl)
theorem dX0_off_19 : decode cX0_off 19 = .ok (.aload_n 1, 1) := dk_43 (dk_at dksX0_off_0 19 rfl rfl)
theorem dX0_off_20 : decode cX0_off 20 = .ok (.iload_n 3, 1) := dk_29 (dk_at dksX0_off_0 20 rfl rfl)
theorem dX0_off_21 : decode cX0_off 21 = .ok (.invokevirtual 315, 3) := dk_182 1 59 (dk_at dksX0_off_0 21 rfl rfl)
theorem dX0_off_24 : decode cX0_off 24 = .ok (.getfield 139, 3) := dk_180 0 139 (dk_at dksX0_off_1 0 rfl rfl)
theorem dX0_off_27 : decode cX0_off 27 = .ok (.aload_n 1, 1) := dk_43 (dk_at dksX0_off_1 3 rfl rfl)
theorem dX0_off_28 : decode cX0_off 28 = .ok (.getfield 257, 3) := dk_180 1 1 (dk_at dksX0_off_1 4 rfl rfl)
theorem dX0_off_31 : decode cX0_off 31 = .ok (.if_icmp .ne 34, 3) := dk_160 0 34 (dk_at dksX0_off_1 7 rfl rfl)
theorem dX0_off_34 : decode cX0_off 34 = .ok (.aload_n 1, 1) := dk_43 (dk_at dksX0_off_1 10 rfl rfl)
theorem dX0_off_35 : decode cX0_off 35 = .ok (.getfield 249, 3) := dk_180 0 249 (dk_at dksX0_off_1 11 rfl rfl)
theorem dX0_off_38 : decode cX0_off 38 = .ok (.iload_n 3, 1) := dk_29 (dk_at dksX0_off_1 14 rfl rfl)
theorem dX0_off_39 : decode cX0_off 39 = .ok (.iaload, 1) := dk_46 (dk_at dksX0_off_1 15 rfl rfl)
theorem dX0_off_40 : decode cX0_off 40 = .ok (.ifCond .le 25, 3) := dk_158 0 25 (dk_at dksX0_off_1 16 rfl rfl)
theorem dX0_off_43 : decode cX0_off 43 = .ok (.iload_n 2, 1) := dk_28 (dk_at dksX0_off_1 19 rfl rfl)
theorem dX0_off_44 : decode cX0_off 44 = .ok (.iconst (-1), 1) := dk_2 (dk_at dksX0_off_1 20 rfl rfl)
theorem dX0_off_45 : decode cX0_off 45 = .ok (.if_icmp .eq 13, 3) := dk_159 0 13 (dk_at dksX0_off_1 21 rfl rfl)
theorem dX0_off_48 : decode cX0_off 48 = .ok (.aload_n 1, 1) := dk_43 (dk_at dksX0_off_2 0 rfl rfl)
theorem dX0_off_49 : decode cX0_off 49 = .ok (.getfield 249, 3) := dk_180 0 249 (dk_at dksX0_off_2 1 rfl rfl)
theorem dX0_off_52 : decode cX0_off 52 = .ok (.iload_n 3, 1) := dk_29 (dk_at dksX0_off_2 4 rfl rfl)
theorem dX0_off_53 : decode cX0_off 53 = .ok (.iaload, 1) := dk_46 (dk_at dksX0_off_2 5 rfl rfl)
theorem dX0_off_54 : decode cX0_off 54 = .ok (.iload_n 2, 1) := dk_28 (dk_at dksX0_off_2 6 rfl rfl)
theorem dX0_off_55 : decode cX0_off 55 = .ok (.if_icmp .ge 10, 3) := dk_162 0 10 (dk_at dksX0_off_2 7 rfl rfl)
theorem dX0_off_58 : decode cX0_off 58 = .ok (.aload_n 1, 1) := dk_43 (dk_at dksX0_off_2 10 rfl rfl)
theorem dX0_off_59 : decode cX0_off 59 = .ok (.getfield 249, 3) := dk_180 0 249 (dk_at dksX0_off_2 11 rfl rfl)
theorem dX0_off_62 : decode cX0_off 62 = .ok (.iload_n 3, 1) := dk_29 (dk_at dksX0_off_2 14 rfl rfl)
theorem dX0_off_63 : decode cX0_off 63 = .ok (.iaload, 1) := dk_46 (dk_at dksX0_off_2 15 rfl rfl)
theorem dX0_off_64 : decode cX0_off 64 = .ok (.istore_n 2, 1) := dk_61 (dk_at dksX0_off_2 16 rfl rfl)
theorem dX0_off_65 : decode cX0_off 65 = .ok (.iinc 3 1, 3) := dk_132 3 1 (dk_at dksX0_off_2 17 rfl rfl)
theorem dX0_off_68 : decode cX0_off 68 = .ok (.goto (-64), 3) := dk_167 255 192 (dk_at dksX0_off_2 20 rfl rfl)
theorem dX0_off_71 : decode cX0_off 71 = .ok (.iload_n 2, 1) := dk_28 (dk_at dksX0_off_2 23 rfl rfl)
theorem dX0_off_72 : decode cX0_off 72 = .ok (.ireturn, 1) := dk_172 (dk_at dksX0_off_3 0 rfl rfl)
abbrev cX0_place : ByteArray := prog_1_method_44_code
def yX0_place : MethodName := ⟨RX0, "place", "(ZIIII)I"⟩
def dkwX0_place_4 : List UInt8 := [183, 1, 79, 182, 1, 48, 87, 42, 180, 0, 10, 180, 1, 72, 182, 0, 109, 4, 100, 172]
abbrev dktX0_place_4 : List UInt8 := dkwX0_place_4 ++ []
def dkwX0_place_3 : List UInt8 := [16, 253, 182, 0, 73, 172, 42, 180, 0, 10, 180, 1, 72, 187, 1, 77, 89, 27, 28, 29, 21, 4, 21, 5]
abbrev dktX0_place_3 : List UInt8 := dkwX0_place_3 ++ dktX0_place_4
def dkwX0_place_2 : List UInt8 := [133, 9, 28, 133, 184, 0, 81, 153, 0, 15, 21, 5, 133, 9, 29, 133, 184, 0, 81, 154, 0, 10, 42]
abbrev dktX0_place_2 : List UInt8 := dkwX0_place_2 ++ dktX0_place_3
def dkwX0_place_1 : List UInt8 := [9, 20, 1, 75, 184, 0, 81, 153, 0, 39, 29, 133, 9, 20, 1, 75, 184, 0, 81, 153, 0, 27, 21, 4]
abbrev dktX0_place_1 : List UInt8 := dkwX0_place_1 ++ dktX0_place_2
def dkwX0_place_0 : List UInt8 := [42, 180, 0, 10, 180, 1, 72, 182, 0, 109, 16, 12, 160, 0, 10, 42, 16, 251, 182, 0, 73, 172, 28, 133]
abbrev dktX0_place_0 : List UInt8 := dkwX0_place_0 ++ dktX0_place_1
theorem dksX0_place_0 : cX0_place.data.toList.drop 0 = dktX0_place_0 := by decide +kernel
theorem dksX0_place_1 : cX0_place.data.toList.drop 24 = dktX0_place_1 := dk_seg dksX0_place_0 24 rfl rfl
theorem dksX0_place_2 : cX0_place.data.toList.drop 48 = dktX0_place_2 := dk_seg dksX0_place_1 24 rfl rfl
theorem dksX0_place_3 : cX0_place.data.toList.drop 71 = dktX0_place_3 := dk_seg dksX0_place_2 23 rfl rfl
theorem dksX0_place_4 : cX0_place.data.toList.drop 95 = dktX0_place_4 := dk_seg dksX0_place_3 24 rfl rfl
theorem dX0_place_0 : decode cX0_place 0 = .ok (.aload_n 0, 1) := dk_42 (dk_at dksX0_place_0 0 rfl rfl)
theorem dX0_place_1 : decode cX0_place 1 = .ok (.getfield 10, 3) := dk_180 0 10 (dk_at dksX0_place_0 1 rfl rfl)
theorem dX0_place_4 : decode cX0_place 4 = .ok (.getfield 328, 3) := dk_180 1 72 (dk_at dksX0_place_0 4 rfl rfl)
theorem dX0_place_7 : decode cX0_place 7 = .ok (.invokevirtual 109, 3) := dk_182 0 109 (dk_at dksX0_place_0 7 rfl rfl)
theorem dX0_place_10 : decode cX0_place 10 = .ok (.bipush 12, 2) := dk_16 12 (dk_at dksX0_place_0 10 rfl rfl)
theorem dX0_place_12 : decode cX0_place 12 = .ok (.if_icmp .ne 10, 3) := dk_160 0 10 (dk_at dksX0_place_0 12 rfl rfl)
theorem dX0_place_15 : decode cX0_place 15 = .ok (.aload_n 0, 1) := dk_42 (dk_at dksX0_place_0 15 rfl rfl)
theorem dX0_place_16 : decode cX0_place 16 = .ok (.bipush (-5), 2) := dk_16 251 (dk_at dksX0_place_0 16 rfl rfl)
theorem dX0_place_18 : decode cX0_place 18 = .ok (.invokevirtual 73, 3) := dk_182 0 73 (dk_at dksX0_place_0 18 rfl rfl)
theorem dX0_place_21 : decode cX0_place 21 = .ok (.ireturn, 1) := dk_172 (dk_at dksX0_place_0 21 rfl rfl)
theorem dX0_place_22 : decode cX0_place 22 = .ok (.iload_n 2, 1) := dk_28 (dk_at dksX0_place_0 22 rfl rfl)
theorem dX0_place_23 : decode cX0_place 23 = .ok (.i2l, 1) := dk_133 (dk_at dksX0_place_0 23 rfl rfl)
theorem dX0_place_24 : decode cX0_place 24 = .ok (.lconst 0, 1) := dk_9 (dk_at dksX0_place_1 0 rfl rfl)
theorem dX0_place_25 : decode cX0_place 25 = .ok (.ldc2_w 331, 3) := dk_20 1 75 (dk_at dksX0_place_1 1 rfl rfl)
theorem dX0_place_28 : decode cX0_place 28 = .ok (.invokestatic 81, 3) := dk_184 0 81 (dk_at dksX0_place_1 4 rfl rfl)
theorem dX0_place_31 : decode cX0_place 31 = .ok (.ifCond .eq 39, 3) := dk_153 0 39 (dk_at dksX0_place_1 7 rfl rfl)
theorem dX0_place_34 : decode cX0_place 34 = .ok (.iload_n 3, 1) := dk_29 (dk_at dksX0_place_1 10 rfl rfl)
theorem dX0_place_35 : decode cX0_place 35 = .ok (.i2l, 1) := dk_133 (dk_at dksX0_place_1 11 rfl rfl)
theorem dX0_place_36 : decode cX0_place 36 = .ok (.lconst 0, 1) := dk_9 (dk_at dksX0_place_1 12 rfl rfl)
theorem dX0_place_37 : decode cX0_place 37 = .ok (.ldc2_w 331, 3) := dk_20 1 75 (dk_at dksX0_place_1 13 rfl rfl)
theorem dX0_place_40 : decode cX0_place 40 = .ok (.invokestatic 81, 3) := dk_184 0 81 (dk_at dksX0_place_1 16 rfl rfl)
theorem dX0_place_43 : decode cX0_place 43 = .ok (.ifCond .eq 27, 3) := dk_153 0 27 (dk_at dksX0_place_1 19 rfl rfl)
theorem dX0_place_46 : decode cX0_place 46 = .ok (.iload 4, 2) := dk_21 4 (dk_at dksX0_place_1 22 rfl rfl)
theorem dX0_place_48 : decode cX0_place 48 = .ok (.i2l, 1) := dk_133 (dk_at dksX0_place_2 0 rfl rfl)
theorem dX0_place_49 : decode cX0_place 49 = .ok (.lconst 0, 1) := dk_9 (dk_at dksX0_place_2 1 rfl rfl)
theorem dX0_place_50 : decode cX0_place 50 = .ok (.iload_n 2, 1) := dk_28 (dk_at dksX0_place_2 2 rfl rfl)
theorem dX0_place_51 : decode cX0_place 51 = .ok (.i2l, 1) := dk_133 (dk_at dksX0_place_2 3 rfl rfl)
theorem dX0_place_52 : decode cX0_place 52 = .ok (.invokestatic 81, 3) := dk_184 0 81 (dk_at dksX0_place_2 4 rfl rfl)
theorem dX0_place_55 : decode cX0_place 55 = .ok (.ifCond .eq 15, 3) := dk_153 0 15 (dk_at dksX0_place_2 7 rfl rfl)
theorem dX0_place_58 : decode cX0_place 58 = .ok (.iload 5, 2) := dk_21 5 (dk_at dksX0_place_2 10 rfl rfl)
theorem dX0_place_60 : decode cX0_place 60 = .ok (.i2l, 1) := dk_133 (dk_at dksX0_place_2 12 rfl rfl)
theorem dX0_place_61 : decode cX0_place 61 = .ok (.lconst 0, 1) := dk_9 (dk_at dksX0_place_2 13 rfl rfl)
theorem dX0_place_62 : decode cX0_place 62 = .ok (.iload_n 3, 1) := dk_29 (dk_at dksX0_place_2 14 rfl rfl)
theorem dX0_place_63 : decode cX0_place 63 = .ok (.i2l, 1) := dk_133 (dk_at dksX0_place_2 15 rfl rfl)
theorem dX0_place_64 : decode cX0_place 64 = .ok (.invokestatic 81, 3) := dk_184 0 81 (dk_at dksX0_place_2 16 rfl rfl)
theorem dX0_place_67 : decode cX0_place 67 = .ok (.ifCond .ne 10, 3) := dk_154 0 10 (dk_at dksX0_place_2 19 rfl rfl)
theorem dX0_place_70 : decode cX0_place 70 = .ok (.aload_n 0, 1) := dk_42 (dk_at dksX0_place_2 22 rfl rfl)
theorem dX0_place_71 : decode cX0_place 71 = .ok (.bipush (-3), 2) := dk_16 253 (dk_at dksX0_place_3 0 rfl rfl)
theorem dX0_place_73 : decode cX0_place 73 = .ok (.invokevirtual 73, 3) := dk_182 0 73 (dk_at dksX0_place_3 2 rfl rfl)
theorem dX0_place_76 : decode cX0_place 76 = .ok (.ireturn, 1) := dk_172 (dk_at dksX0_place_3 5 rfl rfl)
theorem dX0_place_77 : decode cX0_place 77 = .ok (.aload_n 0, 1) := dk_42 (dk_at dksX0_place_3 6 rfl rfl)
theorem dX0_place_78 : decode cX0_place 78 = .ok (.getfield 10, 3) := dk_180 0 10 (dk_at dksX0_place_3 7 rfl rfl)
theorem dX0_place_81 : decode cX0_place 81 = .ok (.getfield 328, 3) := dk_180 1 72 (dk_at dksX0_place_3 10 rfl rfl)
theorem dX0_place_84 : decode cX0_place 84 = .ok (.new 333, 3) := dk_187 1 77 (dk_at dksX0_place_3 13 rfl rfl)
theorem dX0_place_87 : decode cX0_place 87 = .ok (.dup, 1) := dk_89 (dk_at dksX0_place_3 16 rfl rfl)
theorem dX0_place_88 : decode cX0_place 88 = .ok (.iload_n 1, 1) := dk_27 (dk_at dksX0_place_3 17 rfl rfl)
theorem dX0_place_89 : decode cX0_place 89 = .ok (.iload_n 2, 1) := dk_28 (dk_at dksX0_place_3 18 rfl rfl)
theorem dX0_place_90 : decode cX0_place 90 = .ok (.iload_n 3, 1) := dk_29 (dk_at dksX0_place_3 19 rfl rfl)
theorem dX0_place_91 : decode cX0_place 91 = .ok (.iload 4, 2) := dk_21 4 (dk_at dksX0_place_3 20 rfl rfl)
theorem dX0_place_93 : decode cX0_place 93 = .ok (.iload 5, 2) := dk_21 5 (dk_at dksX0_place_3 22 rfl rfl)
theorem dX0_place_95 : decode cX0_place 95 = .ok (.invokespecial 335, 3) := dk_183 1 79 (dk_at dksX0_place_4 0 rfl rfl)
theorem dX0_place_98 : decode cX0_place 98 = .ok (.invokevirtual 304, 3) := dk_182 1 48 (dk_at dksX0_place_4 3 rfl rfl)
theorem dX0_place_101 : decode cX0_place 101 = .ok (.pop, 1) := dk_87 (dk_at dksX0_place_4 6 rfl rfl)
theorem dX0_place_102 : decode cX0_place 102 = .ok (.aload_n 0, 1) := dk_42 (dk_at dksX0_place_4 7 rfl rfl)
theorem dX0_place_103 : decode cX0_place 103 = .ok (.getfield 10, 3) := dk_180 0 10 (dk_at dksX0_place_4 8 rfl rfl)
theorem dX0_place_106 : decode cX0_place 106 = .ok (.getfield 328, 3) := dk_180 1 72 (dk_at dksX0_place_4 11 rfl rfl)
theorem dX0_place_109 : decode cX0_place 109 = .ok (.invokevirtual 109, 3) := dk_182 0 109 (dk_at dksX0_place_4 14 rfl rfl)
theorem dX0_place_112 : decode cX0_place 112 = .ok (.iconst 1, 1) := dk_4 (dk_at dksX0_place_4 17 rfl rfl)
theorem dX0_place_113 : decode cX0_place 113 = .ok (.isub, 1) := dk_100 (dk_at dksX0_place_4 18 rfl rfl)
theorem dX0_place_114 : decode cX0_place 114 = .ok (.ireturn, 1) := dk_172 (dk_at dksX0_place_4 19 rfl rfl)
abbrev cX0_behind : ByteArray := prog_1_method_45_code
def yX0_behind : MethodName := ⟨RX0, "behind", "(II)I"⟩
def dkwX0_behind_2 : List UInt8 := [180, 1, 87, 62, 42, 180, 0, 10, 180, 1, 72, 27, 182, 0, 133, 192, 1, 77, 28, 181, 1, 87, 29, 172]
abbrev dktX0_behind_2 : List UInt8 := dkwX0_behind_2 ++ []
def dkwX0_behind_1 : List UInt8 := [154, 0, 10, 42, 16, 253, 182, 0, 73, 172, 42, 180, 0, 10, 180, 1, 72, 27, 182, 0, 133, 192, 1, 77]
abbrev dktX0_behind_1 : List UInt8 := dkwX0_behind_1 ++ dktX0_behind_2
def dkwX0_behind_0 : List UInt8 := [42, 27, 182, 1, 82, 154, 0, 10, 42, 16, 254, 182, 0, 73, 172, 28, 133, 9, 20, 1, 85, 184, 0, 81]
abbrev dktX0_behind_0 : List UInt8 := dkwX0_behind_0 ++ dktX0_behind_1
theorem dksX0_behind_0 : cX0_behind.data.toList.drop 0 = dktX0_behind_0 := by decide +kernel
theorem dksX0_behind_1 : cX0_behind.data.toList.drop 24 = dktX0_behind_1 := dk_seg dksX0_behind_0 24 rfl rfl
theorem dksX0_behind_2 : cX0_behind.data.toList.drop 48 = dktX0_behind_2 := dk_seg dksX0_behind_1 24 rfl rfl
theorem dX0_behind_0 : decode cX0_behind 0 = .ok (.aload_n 0, 1) := dk_42 (dk_at dksX0_behind_0 0 rfl rfl)
theorem dX0_behind_1 : decode cX0_behind 1 = .ok (.iload_n 1, 1) := dk_27 (dk_at dksX0_behind_0 1 rfl rfl)
theorem dX0_behind_2 : decode cX0_behind 2 = .ok (.invokevirtual 338, 3) := dk_182 1 82 (dk_at dksX0_behind_0 2 rfl rfl)
theorem dX0_behind_5 : decode cX0_behind 5 = .ok (.ifCond .ne 10, 3) := dk_154 0 10 (dk_at dksX0_behind_0 5 rfl rfl)
theorem dX0_behind_8 : decode cX0_behind 8 = .ok (.aload_n 0, 1) := dk_42 (dk_at dksX0_behind_0 8 rfl rfl)
theorem dX0_behind_9 : decode cX0_behind 9 = .ok (.bipush (-2), 2) := dk_16 254 (dk_at dksX0_behind_0 9 rfl rfl)
theorem dX0_behind_11 : decode cX0_behind 11 = .ok (.invokevirtual 73, 3) := dk_182 0 73 (dk_at dksX0_behind_0 11 rfl rfl)
theorem dX0_behind_14 : decode cX0_behind 14 = .ok (.ireturn, 1) := dk_172 (dk_at dksX0_behind_0 14 rfl rfl)
theorem dX0_behind_15 : decode cX0_behind 15 = .ok (.iload_n 2, 1) := dk_28 (dk_at dksX0_behind_0 15 rfl rfl)
theorem dX0_behind_16 : decode cX0_behind 16 = .ok (.i2l, 1) := dk_133 (dk_at dksX0_behind_0 16 rfl rfl)
theorem dX0_behind_17 : decode cX0_behind 17 = .ok (.lconst 0, 1) := dk_9 (dk_at dksX0_behind_0 17 rfl rfl)
theorem dX0_behind_18 : decode cX0_behind 18 = .ok (.ldc2_w 341, 3) := dk_20 1 85 (dk_at dksX0_behind_0 18 rfl rfl)
theorem dX0_behind_21 : decode cX0_behind 21 = .ok (.invokestatic 81, 3) := dk_184 0 81 (dk_at dksX0_behind_0 21 rfl rfl)
theorem dX0_behind_24 : decode cX0_behind 24 = .ok (.ifCond .ne 10, 3) := dk_154 0 10 (dk_at dksX0_behind_1 0 rfl rfl)
theorem dX0_behind_27 : decode cX0_behind 27 = .ok (.aload_n 0, 1) := dk_42 (dk_at dksX0_behind_1 3 rfl rfl)
theorem dX0_behind_28 : decode cX0_behind 28 = .ok (.bipush (-3), 2) := dk_16 253 (dk_at dksX0_behind_1 4 rfl rfl)
theorem dX0_behind_30 : decode cX0_behind 30 = .ok (.invokevirtual 73, 3) := dk_182 0 73 (dk_at dksX0_behind_1 6 rfl rfl)
theorem dX0_behind_33 : decode cX0_behind 33 = .ok (.ireturn, 1) := dk_172 (dk_at dksX0_behind_1 9 rfl rfl)
theorem dX0_behind_34 : decode cX0_behind 34 = .ok (.aload_n 0, 1) := dk_42 (dk_at dksX0_behind_1 10 rfl rfl)
theorem dX0_behind_35 : decode cX0_behind 35 = .ok (.getfield 10, 3) := dk_180 0 10 (dk_at dksX0_behind_1 11 rfl rfl)
theorem dX0_behind_38 : decode cX0_behind 38 = .ok (.getfield 328, 3) := dk_180 1 72 (dk_at dksX0_behind_1 14 rfl rfl)
theorem dX0_behind_41 : decode cX0_behind 41 = .ok (.iload_n 1, 1) := dk_27 (dk_at dksX0_behind_1 17 rfl rfl)
theorem dX0_behind_42 : decode cX0_behind 42 = .ok (.invokevirtual 133, 3) := dk_182 0 133 (dk_at dksX0_behind_1 18 rfl rfl)
theorem dX0_behind_45 : decode cX0_behind 45 = .ok (.checkcast 333, 3) := dk_192 1 77 (dk_at dksX0_behind_1 21 rfl rfl)
theorem dX0_behind_48 : decode cX0_behind 48 = .ok (.getfield 343, 3) := dk_180 1 87 (dk_at dksX0_behind_2 0 rfl rfl)
theorem dX0_behind_51 : decode cX0_behind 51 = .ok (.istore_n 3, 1) := dk_62 (dk_at dksX0_behind_2 3 rfl rfl)
theorem dX0_behind_52 : decode cX0_behind 52 = .ok (.aload_n 0, 1) := dk_42 (dk_at dksX0_behind_2 4 rfl rfl)
theorem dX0_behind_53 : decode cX0_behind 53 = .ok (.getfield 10, 3) := dk_180 0 10 (dk_at dksX0_behind_2 5 rfl rfl)
theorem dX0_behind_56 : decode cX0_behind 56 = .ok (.getfield 328, 3) := dk_180 1 72 (dk_at dksX0_behind_2 8 rfl rfl)
theorem dX0_behind_59 : decode cX0_behind 59 = .ok (.iload_n 1, 1) := dk_27 (dk_at dksX0_behind_2 11 rfl rfl)
theorem dX0_behind_60 : decode cX0_behind 60 = .ok (.invokevirtual 133, 3) := dk_182 0 133 (dk_at dksX0_behind_2 12 rfl rfl)
theorem dX0_behind_63 : decode cX0_behind 63 = .ok (.checkcast 333, 3) := dk_192 1 77 (dk_at dksX0_behind_2 15 rfl rfl)
theorem dX0_behind_66 : decode cX0_behind 66 = .ok (.iload_n 2, 1) := dk_28 (dk_at dksX0_behind_2 18 rfl rfl)
theorem dX0_behind_67 : decode cX0_behind 67 = .ok (.putfield 343, 3) := dk_181 1 87 (dk_at dksX0_behind_2 19 rfl rfl)
theorem dX0_behind_70 : decode cX0_behind 70 = .ok (.iload_n 3, 1) := dk_29 (dk_at dksX0_behind_2 22 rfl rfl)
theorem dX0_behind_71 : decode cX0_behind 71 = .ok (.ireturn, 1) := dk_172 (dk_at dksX0_behind_2 23 rfl rfl)
abbrev cX0_isPlace : ByteArray := prog_1_method_43_code
def yX0_isPlace : MethodName := ⟨RX0, "isPlace", "(I)Z"⟩
def dkwX0_isPlace_0 : List UInt8 := [27, 133, 9, 42, 180, 0, 10, 180, 1, 72, 182, 0, 109, 4, 100, 133, 184, 0, 81, 172]
abbrev dktX0_isPlace_0 : List UInt8 := dkwX0_isPlace_0 ++ []
theorem dksX0_isPlace_0 : cX0_isPlace.data.toList.drop 0 = dktX0_isPlace_0 := by decide +kernel
theorem dX0_isPlace_0 : decode cX0_isPlace 0 = .ok (.iload_n 1, 1) := dk_27 (dk_at dksX0_isPlace_0 0 rfl rfl)
theorem dX0_isPlace_1 : decode cX0_isPlace 1 = .ok (.i2l, 1) := dk_133 (dk_at dksX0_isPlace_0 1 rfl rfl)
theorem dX0_isPlace_2 : decode cX0_isPlace 2 = .ok (.lconst 0, 1) := dk_9 (dk_at dksX0_isPlace_0 2 rfl rfl)
theorem dX0_isPlace_3 : decode cX0_isPlace 3 = .ok (.aload_n 0, 1) := dk_42 (dk_at dksX0_isPlace_0 3 rfl rfl)
theorem dX0_isPlace_4 : decode cX0_isPlace 4 = .ok (.getfield 10, 3) := dk_180 0 10 (dk_at dksX0_isPlace_0 4 rfl rfl)
theorem dX0_isPlace_7 : decode cX0_isPlace 7 = .ok (.getfield 328, 3) := dk_180 1 72 (dk_at dksX0_isPlace_0 7 rfl rfl)
theorem dX0_isPlace_10 : decode cX0_isPlace 10 = .ok (.invokevirtual 109, 3) := dk_182 0 109 (dk_at dksX0_isPlace_0 10 rfl rfl)
theorem dX0_isPlace_13 : decode cX0_isPlace 13 = .ok (.iconst 1, 1) := dk_4 (dk_at dksX0_isPlace_0 13 rfl rfl)
theorem dX0_isPlace_14 : decode cX0_isPlace 14 = .ok (.isub, 1) := dk_100 (dk_at dksX0_isPlace_0 14 rfl rfl)
theorem dX0_isPlace_15 : decode cX0_isPlace 15 = .ok (.i2l, 1) := dk_133 (dk_at dksX0_isPlace_0 15 rfl rfl)
theorem dX0_isPlace_16 : decode cX0_isPlace 16 = .ok (.invokestatic 81, 3) := dk_184 0 81 (dk_at dksX0_isPlace_0 16 rfl rfl)
theorem dX0_isPlace_19 : decode cX0_isPlace 19 = .ok (.ireturn, 1) := dk_172 (dk_at dksX0_isPlace_0 19 rfl rfl)
abbrev cX0_at : ByteArray := prog_1_method_46_code
def yX0_at : MethodName := ⟨RX0, "at", "(II)I"⟩
def dkwX0_at_4 : List UInt8 := [180, 1, 97, 28, 6, 100, 46, 172, 45, 180, 1, 87, 172, 42, 16, 254, 182, 0, 73, 172]
abbrev dktX0_at_4 : List UInt8 := dkwX0_at_4 ++ []
def dkwX0_at_3 : List UInt8 := [45, 180, 1, 90, 153, 0, 7, 4, 167, 0, 4, 3, 172, 45, 180, 1, 94, 28, 4, 100, 46, 172, 45]
abbrev dktX0_at_3 : List UInt8 := dkwX0_at_3 ++ dktX0_at_4
def dkwX0_at_2 : List UInt8 := [170, 0, 0, 0, 73, 0, 0, 0, 0, 0, 0, 0, 5, 0, 0, 0, 37, 0, 0, 0, 50, 0, 0, 0, 50, 0, 0, 0, 59, 0, 0, 0, 59, 0, 0, 0, 68]
abbrev dktX0_at_2 : List UInt8 := dkwX0_at_2 ++ dktX0_at_3
def dkwX0_at_1 : List UInt8 := [182, 0, 133, 192, 1, 77, 78, 28]
abbrev dktX0_at_1 : List UInt8 := dkwX0_at_1 ++ dktX0_at_2
def dkwX0_at_0 : List UInt8 := [42, 27, 182, 1, 82, 154, 0, 10, 42, 16, 254, 182, 0, 73, 172, 42, 180, 0, 10, 180, 1, 72, 27]
abbrev dktX0_at_0 : List UInt8 := dkwX0_at_0 ++ dktX0_at_1
theorem dksX0_at_0 : cX0_at.data.toList.drop 0 = dktX0_at_0 := by decide +kernel
theorem dksX0_at_1 : cX0_at.data.toList.drop 23 = dktX0_at_1 := dk_seg dksX0_at_0 23 rfl rfl
theorem dksX0_at_2 : cX0_at.data.toList.drop 31 = dktX0_at_2 := dk_seg dksX0_at_1 8 rfl rfl
theorem dksX0_at_3 : cX0_at.data.toList.drop 68 = dktX0_at_3 := dk_seg dksX0_at_2 37 rfl rfl
theorem dksX0_at_4 : cX0_at.data.toList.drop 91 = dktX0_at_4 := dk_seg dksX0_at_3 23 rfl rfl
theorem dX0_at_0 : decode cX0_at 0 = .ok (.aload_n 0, 1) := dk_42 (dk_at dksX0_at_0 0 rfl rfl)
theorem dX0_at_1 : decode cX0_at 1 = .ok (.iload_n 1, 1) := dk_27 (dk_at dksX0_at_0 1 rfl rfl)
theorem dX0_at_2 : decode cX0_at 2 = .ok (.invokevirtual 338, 3) := dk_182 1 82 (dk_at dksX0_at_0 2 rfl rfl)
theorem dX0_at_5 : decode cX0_at 5 = .ok (.ifCond .ne 10, 3) := dk_154 0 10 (dk_at dksX0_at_0 5 rfl rfl)
theorem dX0_at_8 : decode cX0_at 8 = .ok (.aload_n 0, 1) := dk_42 (dk_at dksX0_at_0 8 rfl rfl)
theorem dX0_at_9 : decode cX0_at 9 = .ok (.bipush (-2), 2) := dk_16 254 (dk_at dksX0_at_0 9 rfl rfl)
theorem dX0_at_11 : decode cX0_at 11 = .ok (.invokevirtual 73, 3) := dk_182 0 73 (dk_at dksX0_at_0 11 rfl rfl)
theorem dX0_at_14 : decode cX0_at 14 = .ok (.ireturn, 1) := dk_172 (dk_at dksX0_at_0 14 rfl rfl)
theorem dX0_at_15 : decode cX0_at 15 = .ok (.aload_n 0, 1) := dk_42 (dk_at dksX0_at_0 15 rfl rfl)
theorem dX0_at_16 : decode cX0_at 16 = .ok (.getfield 10, 3) := dk_180 0 10 (dk_at dksX0_at_0 16 rfl rfl)
theorem dX0_at_19 : decode cX0_at 19 = .ok (.getfield 328, 3) := dk_180 1 72 (dk_at dksX0_at_0 19 rfl rfl)
theorem dX0_at_22 : decode cX0_at 22 = .ok (.iload_n 1, 1) := dk_27 (dk_at dksX0_at_0 22 rfl rfl)
theorem dX0_at_23 : decode cX0_at 23 = .ok (.invokevirtual 133, 3) := dk_182 0 133 (dk_at dksX0_at_1 0 rfl rfl)
theorem dX0_at_26 : decode cX0_at 26 = .ok (.checkcast 333, 3) := dk_192 1 77 (dk_at dksX0_at_1 3 rfl rfl)
theorem dX0_at_29 : decode cX0_at 29 = .ok (.astore_n 3, 1) := dk_78 (dk_at dksX0_at_1 6 rfl rfl)
theorem dX0_at_30 : decode cX0_at 30 = .ok (.iload_n 2, 1) := dk_28 (dk_at dksX0_at_1 7 rfl rfl)
theorem dX0_at_31 : decode cX0_at 31 = .ok (.tableswitch 73 0 5 #[37, 50, 50, 59, 59, 68], 37) := by decide +kernel
theorem dX0_at_68 : decode cX0_at 68 = .ok (.aload_n 3, 1) := dk_45 (dk_at dksX0_at_3 0 rfl rfl)
theorem dX0_at_69 : decode cX0_at 69 = .ok (.getfield 346, 3) := dk_180 1 90 (dk_at dksX0_at_3 1 rfl rfl)
theorem dX0_at_72 : decode cX0_at 72 = .ok (.ifCond .eq 7, 3) := dk_153 0 7 (dk_at dksX0_at_3 4 rfl rfl)
theorem dX0_at_75 : decode cX0_at 75 = .ok (.iconst 1, 1) := dk_4 (dk_at dksX0_at_3 7 rfl rfl)
theorem dX0_at_76 : decode cX0_at 76 = .ok (.goto 4, 3) := dk_167 0 4 (dk_at dksX0_at_3 8 rfl rfl)
theorem dX0_at_79 : decode cX0_at 79 = .ok (.iconst 0, 1) := dk_3 (dk_at dksX0_at_3 11 rfl rfl)
theorem dX0_at_80 : decode cX0_at 80 = .ok (.ireturn, 1) := dk_172 (dk_at dksX0_at_3 12 rfl rfl)
theorem dX0_at_81 : decode cX0_at 81 = .ok (.aload_n 3, 1) := dk_45 (dk_at dksX0_at_3 13 rfl rfl)
theorem dX0_at_82 : decode cX0_at 82 = .ok (.getfield 350, 3) := dk_180 1 94 (dk_at dksX0_at_3 14 rfl rfl)
theorem dX0_at_85 : decode cX0_at 85 = .ok (.iload_n 2, 1) := dk_28 (dk_at dksX0_at_3 17 rfl rfl)
theorem dX0_at_86 : decode cX0_at 86 = .ok (.iconst 1, 1) := dk_4 (dk_at dksX0_at_3 18 rfl rfl)
theorem dX0_at_87 : decode cX0_at 87 = .ok (.isub, 1) := dk_100 (dk_at dksX0_at_3 19 rfl rfl)
theorem dX0_at_88 : decode cX0_at 88 = .ok (.iaload, 1) := dk_46 (dk_at dksX0_at_3 20 rfl rfl)
theorem dX0_at_89 : decode cX0_at 89 = .ok (.ireturn, 1) := dk_172 (dk_at dksX0_at_3 21 rfl rfl)
theorem dX0_at_90 : decode cX0_at 90 = .ok (.aload_n 3, 1) := dk_45 (dk_at dksX0_at_3 22 rfl rfl)
theorem dX0_at_91 : decode cX0_at 91 = .ok (.getfield 353, 3) := dk_180 1 97 (dk_at dksX0_at_4 0 rfl rfl)
theorem dX0_at_94 : decode cX0_at 94 = .ok (.iload_n 2, 1) := dk_28 (dk_at dksX0_at_4 3 rfl rfl)
theorem dX0_at_95 : decode cX0_at 95 = .ok (.iconst 3, 1) := dk_6 (dk_at dksX0_at_4 4 rfl rfl)
theorem dX0_at_96 : decode cX0_at 96 = .ok (.isub, 1) := dk_100 (dk_at dksX0_at_4 5 rfl rfl)
theorem dX0_at_97 : decode cX0_at 97 = .ok (.iaload, 1) := dk_46 (dk_at dksX0_at_4 6 rfl rfl)
theorem dX0_at_98 : decode cX0_at 98 = .ok (.ireturn, 1) := dk_172 (dk_at dksX0_at_4 7 rfl rfl)
theorem dX0_at_99 : decode cX0_at 99 = .ok (.aload_n 3, 1) := dk_45 (dk_at dksX0_at_4 8 rfl rfl)
theorem dX0_at_100 : decode cX0_at 100 = .ok (.getfield 343, 3) := dk_180 1 87 (dk_at dksX0_at_4 9 rfl rfl)
theorem dX0_at_103 : decode cX0_at 103 = .ok (.ireturn, 1) := dk_172 (dk_at dksX0_at_4 12 rfl rfl)
theorem dX0_at_104 : decode cX0_at 104 = .ok (.aload_n 0, 1) := dk_42 (dk_at dksX0_at_4 13 rfl rfl)
theorem dX0_at_105 : decode cX0_at 105 = .ok (.bipush (-2), 2) := dk_16 254 (dk_at dksX0_at_4 14 rfl rfl)
theorem dX0_at_107 : decode cX0_at 107 = .ok (.invokevirtual 73, 3) := dk_182 0 73 (dk_at dksX0_at_4 16 rfl rfl)
theorem dX0_at_110 : decode cX0_at 110 = .ok (.ireturn, 1) := dk_172 (dk_at dksX0_at_4 19 rfl rfl)
abbrev cX0_rate : ByteArray := prog_1_method_48_code
def yX0_rate : MethodName := ⟨RX0, "rate", "(ZI)I"⟩
def dkwX0_rate_5 : List UInt8 := [154, 0, 5, 28, 172, 28, 154, 0, 7, 29, 167, 0, 5, 21, 4, 29, 21, 4, 184, 1, 100, 108, 172]
abbrev dktX0_rate_5 : List UInt8 := dkwX0_rate_5 ++ []
def dkwX0_rate_4 : List UInt8 := [180, 1, 72, 21, 5, 182, 0, 133, 192, 1, 77, 182, 1, 105, 96, 54, 4, 132, 5, 1, 167, 255, 169, 29]
abbrev dktX0_rate_4 : List UInt8 := dkwX0_rate_4 ++ dktX0_rate_5
def dkwX0_rate_3 : List UInt8 := [180, 1, 72, 21, 5, 182, 0, 133, 192, 1, 77, 182, 1, 103, 96, 62, 21, 4, 42, 180, 0, 10]
abbrev dktX0_rate_3 : List UInt8 := dkwX0_rate_3 ++ dktX0_rate_4
def dkwX0_rate_2 : List UInt8 := [21, 5, 182, 0, 133, 192, 1, 77, 180, 1, 90, 27, 159, 0, 6, 167, 0, 47, 29, 42, 180, 0, 10]
abbrev dktX0_rate_2 : List UInt8 := dkwX0_rate_2 ++ dktX0_rate_3
def dkwX0_rate_1 : List UInt8 := [54, 5, 21, 5, 42, 180, 0, 10, 180, 1, 72, 182, 0, 109, 162, 0, 78, 42, 180, 0, 10, 180, 1, 72]
abbrev dktX0_rate_1 : List UInt8 := dkwX0_rate_1 ++ dktX0_rate_2
def dkwX0_rate_0 : List UInt8 := [28, 133, 9, 10, 184, 0, 81, 154, 0, 10, 42, 16, 254, 182, 0, 73, 172, 3, 62, 3, 54, 4, 3]
abbrev dktX0_rate_0 : List UInt8 := dkwX0_rate_0 ++ dktX0_rate_1
theorem dksX0_rate_0 : cX0_rate.data.toList.drop 0 = dktX0_rate_0 := by decide +kernel
theorem dksX0_rate_1 : cX0_rate.data.toList.drop 23 = dktX0_rate_1 := dk_seg dksX0_rate_0 23 rfl rfl
theorem dksX0_rate_2 : cX0_rate.data.toList.drop 47 = dktX0_rate_2 := dk_seg dksX0_rate_1 24 rfl rfl
theorem dksX0_rate_3 : cX0_rate.data.toList.drop 70 = dktX0_rate_3 := dk_seg dksX0_rate_2 23 rfl rfl
theorem dksX0_rate_4 : cX0_rate.data.toList.drop 92 = dktX0_rate_4 := dk_seg dksX0_rate_3 22 rfl rfl
theorem dksX0_rate_5 : cX0_rate.data.toList.drop 116 = dktX0_rate_5 := dk_seg dksX0_rate_4 24 rfl rfl
theorem dX0_rate_0 : decode cX0_rate 0 = .ok (.iload_n 2, 1) := dk_28 (dk_at dksX0_rate_0 0 rfl rfl)
theorem dX0_rate_1 : decode cX0_rate 1 = .ok (.i2l, 1) := dk_133 (dk_at dksX0_rate_0 1 rfl rfl)
theorem dX0_rate_2 : decode cX0_rate 2 = .ok (.lconst 0, 1) := dk_9 (dk_at dksX0_rate_0 2 rfl rfl)
theorem dX0_rate_3 : decode cX0_rate 3 = .ok (.lconst 1, 1) := dk_10 (dk_at dksX0_rate_0 3 rfl rfl)
theorem dX0_rate_4 : decode cX0_rate 4 = .ok (.invokestatic 81, 3) := dk_184 0 81 (dk_at dksX0_rate_0 4 rfl rfl)
theorem dX0_rate_7 : decode cX0_rate 7 = .ok (.ifCond .ne 10, 3) := dk_154 0 10 (dk_at dksX0_rate_0 7 rfl rfl)
theorem dX0_rate_10 : decode cX0_rate 10 = .ok (.aload_n 0, 1) := dk_42 (dk_at dksX0_rate_0 10 rfl rfl)
theorem dX0_rate_11 : decode cX0_rate 11 = .ok (.bipush (-2), 2) := dk_16 254 (dk_at dksX0_rate_0 11 rfl rfl)
theorem dX0_rate_13 : decode cX0_rate 13 = .ok (.invokevirtual 73, 3) := dk_182 0 73 (dk_at dksX0_rate_0 13 rfl rfl)
theorem dX0_rate_16 : decode cX0_rate 16 = .ok (.ireturn, 1) := dk_172 (dk_at dksX0_rate_0 16 rfl rfl)
theorem dX0_rate_17 : decode cX0_rate 17 = .ok (.iconst 0, 1) := dk_3 (dk_at dksX0_rate_0 17 rfl rfl)
theorem dX0_rate_18 : decode cX0_rate 18 = .ok (.istore_n 3, 1) := dk_62 (dk_at dksX0_rate_0 18 rfl rfl)
theorem dX0_rate_19 : decode cX0_rate 19 = .ok (.iconst 0, 1) := dk_3 (dk_at dksX0_rate_0 19 rfl rfl)
theorem dX0_rate_20 : decode cX0_rate 20 = .ok (.istore 4, 2) := dk_54 4 (dk_at dksX0_rate_0 20 rfl rfl)
theorem dX0_rate_22 : decode cX0_rate 22 = .ok (.iconst 0, 1) := dk_3 (dk_at dksX0_rate_0 22 rfl rfl)
theorem dX0_rate_23 : decode cX0_rate 23 = .ok (.istore 5, 2) := dk_54 5 (dk_at dksX0_rate_1 0 rfl rfl)
theorem dX0_rate_25 : decode cX0_rate 25 = .ok (.iload 5, 2) := dk_21 5 (dk_at dksX0_rate_1 2 rfl rfl)
theorem dX0_rate_27 : decode cX0_rate 27 = .ok (.aload_n 0, 1) := dk_42 (dk_at dksX0_rate_1 4 rfl rfl)
theorem dX0_rate_28 : decode cX0_rate 28 = .ok (.getfield 10, 3) := dk_180 0 10 (dk_at dksX0_rate_1 5 rfl rfl)
theorem dX0_rate_31 : decode cX0_rate 31 = .ok (.getfield 328, 3) := dk_180 1 72 (dk_at dksX0_rate_1 8 rfl rfl)
theorem dX0_rate_34 : decode cX0_rate 34 = .ok (.invokevirtual 109, 3) := dk_182 0 109 (dk_at dksX0_rate_1 11 rfl rfl)
theorem dX0_rate_37 : decode cX0_rate 37 = .ok (.if_icmp .ge 78, 3) := dk_162 0 78 (dk_at dksX0_rate_1 14 rfl rfl)
theorem dX0_rate_40 : decode cX0_rate 40 = .ok (.aload_n 0, 1) := dk_42 (dk_at dksX0_rate_1 17 rfl rfl)
theorem dX0_rate_41 : decode cX0_rate 41 = .ok (.getfield 10, 3) := dk_180 0 10 (dk_at dksX0_rate_1 18 rfl rfl)
theorem dX0_rate_44 : decode cX0_rate 44 = .ok (.getfield 328, 3) := dk_180 1 72 (dk_at dksX0_rate_1 21 rfl rfl)
theorem dX0_rate_47 : decode cX0_rate 47 = .ok (.iload 5, 2) := dk_21 5 (dk_at dksX0_rate_2 0 rfl rfl)
theorem dX0_rate_49 : decode cX0_rate 49 = .ok (.invokevirtual 133, 3) := dk_182 0 133 (dk_at dksX0_rate_2 2 rfl rfl)
theorem dX0_rate_52 : decode cX0_rate 52 = .ok (.checkcast 333, 3) := dk_192 1 77 (dk_at dksX0_rate_2 5 rfl rfl)
theorem dX0_rate_55 : decode cX0_rate 55 = .ok (.getfield 346, 3) := dk_180 1 90 (dk_at dksX0_rate_2 8 rfl rfl)
theorem dX0_rate_58 : decode cX0_rate 58 = .ok (.iload_n 1, 1) := dk_27 (dk_at dksX0_rate_2 11 rfl rfl)
theorem dX0_rate_59 : decode cX0_rate 59 = .ok (.if_icmp .eq 6, 3) := dk_159 0 6 (dk_at dksX0_rate_2 12 rfl rfl)
theorem dX0_rate_62 : decode cX0_rate 62 = .ok (.goto 47, 3) := dk_167 0 47 (dk_at dksX0_rate_2 15 rfl rfl)
theorem dX0_rate_65 : decode cX0_rate 65 = .ok (.iload_n 3, 1) := dk_29 (dk_at dksX0_rate_2 18 rfl rfl)
theorem dX0_rate_66 : decode cX0_rate 66 = .ok (.aload_n 0, 1) := dk_42 (dk_at dksX0_rate_2 19 rfl rfl)
theorem dX0_rate_67 : decode cX0_rate 67 = .ok (.getfield 10, 3) := dk_180 0 10 (dk_at dksX0_rate_2 20 rfl rfl)
theorem dX0_rate_70 : decode cX0_rate 70 = .ok (.getfield 328, 3) := dk_180 1 72 (dk_at dksX0_rate_3 0 rfl rfl)
theorem dX0_rate_73 : decode cX0_rate 73 = .ok (.iload 5, 2) := dk_21 5 (dk_at dksX0_rate_3 3 rfl rfl)
theorem dX0_rate_75 : decode cX0_rate 75 = .ok (.invokevirtual 133, 3) := dk_182 0 133 (dk_at dksX0_rate_3 5 rfl rfl)
theorem dX0_rate_78 : decode cX0_rate 78 = .ok (.checkcast 333, 3) := dk_192 1 77 (dk_at dksX0_rate_3 8 rfl rfl)
theorem dX0_rate_81 : decode cX0_rate 81 = .ok (.invokevirtual 359, 3) := dk_182 1 103 (dk_at dksX0_rate_3 11 rfl rfl)
theorem dX0_rate_84 : decode cX0_rate 84 = .ok (.iadd, 1) := dk_96 (dk_at dksX0_rate_3 14 rfl rfl)
theorem dX0_rate_85 : decode cX0_rate 85 = .ok (.istore_n 3, 1) := dk_62 (dk_at dksX0_rate_3 15 rfl rfl)
theorem dX0_rate_86 : decode cX0_rate 86 = .ok (.iload 4, 2) := dk_21 4 (dk_at dksX0_rate_3 16 rfl rfl)
theorem dX0_rate_88 : decode cX0_rate 88 = .ok (.aload_n 0, 1) := dk_42 (dk_at dksX0_rate_3 18 rfl rfl)
theorem dX0_rate_89 : decode cX0_rate 89 = .ok (.getfield 10, 3) := dk_180 0 10 (dk_at dksX0_rate_3 19 rfl rfl)
theorem dX0_rate_92 : decode cX0_rate 92 = .ok (.getfield 328, 3) := dk_180 1 72 (dk_at dksX0_rate_4 0 rfl rfl)
theorem dX0_rate_95 : decode cX0_rate 95 = .ok (.iload 5, 2) := dk_21 5 (dk_at dksX0_rate_4 3 rfl rfl)
theorem dX0_rate_97 : decode cX0_rate 97 = .ok (.invokevirtual 133, 3) := dk_182 0 133 (dk_at dksX0_rate_4 5 rfl rfl)
theorem dX0_rate_100 : decode cX0_rate 100 = .ok (.checkcast 333, 3) := dk_192 1 77 (dk_at dksX0_rate_4 8 rfl rfl)
theorem dX0_rate_103 : decode cX0_rate 103 = .ok (.invokevirtual 361, 3) := dk_182 1 105 (dk_at dksX0_rate_4 11 rfl rfl)
theorem dX0_rate_106 : decode cX0_rate 106 = .ok (.iadd, 1) := dk_96 (dk_at dksX0_rate_4 14 rfl rfl)
theorem dX0_rate_107 : decode cX0_rate 107 = .ok (.istore 4, 2) := dk_54 4 (dk_at dksX0_rate_4 15 rfl rfl)
theorem dX0_rate_109 : decode cX0_rate 109 = .ok (.iinc 5 1, 3) := dk_132 5 1 (dk_at dksX0_rate_4 17 rfl rfl)
theorem dX0_rate_112 : decode cX0_rate 112 = .ok (.goto (-87), 3) := dk_167 255 169 (dk_at dksX0_rate_4 20 rfl rfl)
theorem dX0_rate_115 : decode cX0_rate 115 = .ok (.iload_n 3, 1) := dk_29 (dk_at dksX0_rate_4 23 rfl rfl)
theorem dX0_rate_116 : decode cX0_rate 116 = .ok (.ifCond .ne 5, 3) := dk_154 0 5 (dk_at dksX0_rate_5 0 rfl rfl)
theorem dX0_rate_119 : decode cX0_rate 119 = .ok (.iload_n 2, 1) := dk_28 (dk_at dksX0_rate_5 3 rfl rfl)
theorem dX0_rate_120 : decode cX0_rate 120 = .ok (.ireturn, 1) := dk_172 (dk_at dksX0_rate_5 4 rfl rfl)
theorem dX0_rate_121 : decode cX0_rate 121 = .ok (.iload_n 2, 1) := dk_28 (dk_at dksX0_rate_5 5 rfl rfl)
theorem dX0_rate_122 : decode cX0_rate 122 = .ok (.ifCond .ne 7, 3) := dk_154 0 7 (dk_at dksX0_rate_5 6 rfl rfl)
theorem dX0_rate_125 : decode cX0_rate 125 = .ok (.iload_n 3, 1) := dk_29 (dk_at dksX0_rate_5 9 rfl rfl)
theorem dX0_rate_126 : decode cX0_rate 126 = .ok (.goto 5, 3) := dk_167 0 5 (dk_at dksX0_rate_5 10 rfl rfl)
theorem dX0_rate_129 : decode cX0_rate 129 = .ok (.iload 4, 2) := dk_21 4 (dk_at dksX0_rate_5 13 rfl rfl)
theorem dX0_rate_131 : decode cX0_rate 131 = .ok (.iload_n 3, 1) := dk_29 (dk_at dksX0_rate_5 15 rfl rfl)
theorem dX0_rate_132 : decode cX0_rate 132 = .ok (.iload 4, 2) := dk_21 4 (dk_at dksX0_rate_5 16 rfl rfl)
theorem dX0_rate_134 : decode cX0_rate 134 = .ok (.invokestatic 356, 3) := dk_184 1 100 (dk_at dksX0_rate_5 18 rfl rfl)
theorem dX0_rate_137 : decode cX0_rate 137 = .ok (.idiv, 1) := dk_108 (dk_at dksX0_rate_5 21 rfl rfl)
theorem dX0_rate_138 : decode cX0_rate 138 = .ok (.ireturn, 1) := dk_172 (dk_at dksX0_rate_5 22 rfl rfl)
abbrev cX0_common : ByteArray := prog_1_method_47_code
def yX0_common : MethodName := ⟨RX0, "common", "(II)I"⟩
def dkwX0_common_0 : List UInt8 := [27, 154, 0, 7, 26, 167, 0, 10, 27, 26, 27, 112, 184, 1, 100, 172]
abbrev dktX0_common_0 : List UInt8 := dkwX0_common_0 ++ []
theorem dksX0_common_0 : cX0_common.data.toList.drop 0 = dktX0_common_0 := by decide +kernel
theorem dX0_common_0 : decode cX0_common 0 = .ok (.iload_n 1, 1) := dk_27 (dk_at dksX0_common_0 0 rfl rfl)
theorem dX0_common_1 : decode cX0_common 1 = .ok (.ifCond .ne 7, 3) := dk_154 0 7 (dk_at dksX0_common_0 1 rfl rfl)
theorem dX0_common_4 : decode cX0_common 4 = .ok (.iload_n 0, 1) := dk_26 (dk_at dksX0_common_0 4 rfl rfl)
theorem dX0_common_5 : decode cX0_common 5 = .ok (.goto 10, 3) := dk_167 0 10 (dk_at dksX0_common_0 5 rfl rfl)
theorem dX0_common_8 : decode cX0_common 8 = .ok (.iload_n 1, 1) := dk_27 (dk_at dksX0_common_0 8 rfl rfl)
theorem dX0_common_9 : decode cX0_common 9 = .ok (.iload_n 0, 1) := dk_26 (dk_at dksX0_common_0 9 rfl rfl)
theorem dX0_common_10 : decode cX0_common 10 = .ok (.iload_n 1, 1) := dk_27 (dk_at dksX0_common_0 10 rfl rfl)
theorem dX0_common_11 : decode cX0_common 11 = .ok (.irem, 1) := dk_112 (dk_at dksX0_common_0 11 rfl rfl)
theorem dX0_common_12 : decode cX0_common 12 = .ok (.invokestatic 356, 3) := dk_184 1 100 (dk_at dksX0_common_0 12 rfl rfl)
theorem dX0_common_15 : decode cX0_common 15 = .ok (.ireturn, 1) := dk_172 (dk_at dksX0_common_0 15 rfl rfl)
abbrev cX0_parted : ByteArray := prog_1_method_52_code
def yX0_parted : MethodName := ⟨RX0, "parted", "()I"⟩
def dkwX0_parted_2 : List UInt8 := [4, 167, 0, 14, 31, 33, 148, 154, 0, 7, 3, 167, 0, 4, 5, 172]
abbrev dktX0_parted_2 : List UInt8 := dkwX0_parted_2 ++ []
def dkwX0_parted_1 : List UInt8 := [182, 1, 118, 42, 4, 3, 182, 1, 114, 105, 42, 4, 4, 182, 1, 114, 105, 66, 31, 33, 148, 158, 0, 7]
abbrev dktX0_parted_1 : List UInt8 := dkwX0_parted_1 ++ dktX0_parted_2
def dkwX0_parted_0 : List UInt8 := [42, 4, 182, 1, 118, 42, 3, 3, 182, 1, 114, 105, 42, 3, 4, 182, 1, 114, 105, 64, 42, 3]
abbrev dktX0_parted_0 : List UInt8 := dkwX0_parted_0 ++ dktX0_parted_1
theorem dksX0_parted_0 : cX0_parted.data.toList.drop 0 = dktX0_parted_0 := by decide +kernel
theorem dksX0_parted_1 : cX0_parted.data.toList.drop 22 = dktX0_parted_1 := dk_seg dksX0_parted_0 22 rfl rfl
theorem dksX0_parted_2 : cX0_parted.data.toList.drop 46 = dktX0_parted_2 := dk_seg dksX0_parted_1 24 rfl rfl
theorem dX0_parted_0 : decode cX0_parted 0 = .ok (.aload_n 0, 1) := dk_42 (dk_at dksX0_parted_0 0 rfl rfl)
theorem dX0_parted_1 : decode cX0_parted 1 = .ok (.iconst 1, 1) := dk_4 (dk_at dksX0_parted_0 1 rfl rfl)
theorem dX0_parted_2 : decode cX0_parted 2 = .ok (.invokevirtual 374, 3) := dk_182 1 118 (dk_at dksX0_parted_0 2 rfl rfl)
theorem dX0_parted_5 : decode cX0_parted 5 = .ok (.aload_n 0, 1) := dk_42 (dk_at dksX0_parted_0 5 rfl rfl)
theorem dX0_parted_6 : decode cX0_parted 6 = .ok (.iconst 0, 1) := dk_3 (dk_at dksX0_parted_0 6 rfl rfl)
theorem dX0_parted_7 : decode cX0_parted 7 = .ok (.iconst 0, 1) := dk_3 (dk_at dksX0_parted_0 7 rfl rfl)
theorem dX0_parted_8 : decode cX0_parted 8 = .ok (.invokevirtual 370, 3) := dk_182 1 114 (dk_at dksX0_parted_0 8 rfl rfl)
theorem dX0_parted_11 : decode cX0_parted 11 = .ok (.lmul, 1) := dk_105 (dk_at dksX0_parted_0 11 rfl rfl)
theorem dX0_parted_12 : decode cX0_parted 12 = .ok (.aload_n 0, 1) := dk_42 (dk_at dksX0_parted_0 12 rfl rfl)
theorem dX0_parted_13 : decode cX0_parted 13 = .ok (.iconst 0, 1) := dk_3 (dk_at dksX0_parted_0 13 rfl rfl)
theorem dX0_parted_14 : decode cX0_parted 14 = .ok (.iconst 1, 1) := dk_4 (dk_at dksX0_parted_0 14 rfl rfl)
theorem dX0_parted_15 : decode cX0_parted 15 = .ok (.invokevirtual 370, 3) := dk_182 1 114 (dk_at dksX0_parted_0 15 rfl rfl)
theorem dX0_parted_18 : decode cX0_parted 18 = .ok (.lmul, 1) := dk_105 (dk_at dksX0_parted_0 18 rfl rfl)
theorem dX0_parted_19 : decode cX0_parted 19 = .ok (.lstore_n 1, 1) := dk_64 (dk_at dksX0_parted_0 19 rfl rfl)
theorem dX0_parted_20 : decode cX0_parted 20 = .ok (.aload_n 0, 1) := dk_42 (dk_at dksX0_parted_0 20 rfl rfl)
theorem dX0_parted_21 : decode cX0_parted 21 = .ok (.iconst 0, 1) := dk_3 (dk_at dksX0_parted_0 21 rfl rfl)
theorem dX0_parted_22 : decode cX0_parted 22 = .ok (.invokevirtual 374, 3) := dk_182 1 118 (dk_at dksX0_parted_1 0 rfl rfl)
theorem dX0_parted_25 : decode cX0_parted 25 = .ok (.aload_n 0, 1) := dk_42 (dk_at dksX0_parted_1 3 rfl rfl)
theorem dX0_parted_26 : decode cX0_parted 26 = .ok (.iconst 1, 1) := dk_4 (dk_at dksX0_parted_1 4 rfl rfl)
theorem dX0_parted_27 : decode cX0_parted 27 = .ok (.iconst 0, 1) := dk_3 (dk_at dksX0_parted_1 5 rfl rfl)
theorem dX0_parted_28 : decode cX0_parted 28 = .ok (.invokevirtual 370, 3) := dk_182 1 114 (dk_at dksX0_parted_1 6 rfl rfl)
theorem dX0_parted_31 : decode cX0_parted 31 = .ok (.lmul, 1) := dk_105 (dk_at dksX0_parted_1 9 rfl rfl)
theorem dX0_parted_32 : decode cX0_parted 32 = .ok (.aload_n 0, 1) := dk_42 (dk_at dksX0_parted_1 10 rfl rfl)
theorem dX0_parted_33 : decode cX0_parted 33 = .ok (.iconst 1, 1) := dk_4 (dk_at dksX0_parted_1 11 rfl rfl)
theorem dX0_parted_34 : decode cX0_parted 34 = .ok (.iconst 1, 1) := dk_4 (dk_at dksX0_parted_1 12 rfl rfl)
theorem dX0_parted_35 : decode cX0_parted 35 = .ok (.invokevirtual 370, 3) := dk_182 1 114 (dk_at dksX0_parted_1 13 rfl rfl)
theorem dX0_parted_38 : decode cX0_parted 38 = .ok (.lmul, 1) := dk_105 (dk_at dksX0_parted_1 16 rfl rfl)
theorem dX0_parted_39 : decode cX0_parted 39 = .ok (.lstore_n 3, 1) := dk_66 (dk_at dksX0_parted_1 17 rfl rfl)
theorem dX0_parted_40 : decode cX0_parted 40 = .ok (.lload_n 1, 1) := dk_31 (dk_at dksX0_parted_1 18 rfl rfl)
theorem dX0_parted_41 : decode cX0_parted 41 = .ok (.lload_n 3, 1) := dk_33 (dk_at dksX0_parted_1 19 rfl rfl)
theorem dX0_parted_42 : decode cX0_parted 42 = .ok (.lcmp, 1) := dk_148 (dk_at dksX0_parted_1 20 rfl rfl)
theorem dX0_parted_43 : decode cX0_parted 43 = .ok (.ifCond .le 7, 3) := dk_158 0 7 (dk_at dksX0_parted_1 21 rfl rfl)
theorem dX0_parted_46 : decode cX0_parted 46 = .ok (.iconst 1, 1) := dk_4 (dk_at dksX0_parted_2 0 rfl rfl)
theorem dX0_parted_47 : decode cX0_parted 47 = .ok (.goto 14, 3) := dk_167 0 14 (dk_at dksX0_parted_2 1 rfl rfl)
theorem dX0_parted_50 : decode cX0_parted 50 = .ok (.lload_n 1, 1) := dk_31 (dk_at dksX0_parted_2 4 rfl rfl)
theorem dX0_parted_51 : decode cX0_parted 51 = .ok (.lload_n 3, 1) := dk_33 (dk_at dksX0_parted_2 5 rfl rfl)
theorem dX0_parted_52 : decode cX0_parted 52 = .ok (.lcmp, 1) := dk_148 (dk_at dksX0_parted_2 6 rfl rfl)
theorem dX0_parted_53 : decode cX0_parted 53 = .ok (.ifCond .ne 7, 3) := dk_154 0 7 (dk_at dksX0_parted_2 7 rfl rfl)
theorem dX0_parted_56 : decode cX0_parted 56 = .ok (.iconst 0, 1) := dk_3 (dk_at dksX0_parted_2 10 rfl rfl)
theorem dX0_parted_57 : decode cX0_parted 57 = .ok (.goto 4, 3) := dk_167 0 4 (dk_at dksX0_parted_2 11 rfl rfl)
theorem dX0_parted_60 : decode cX0_parted 60 = .ok (.iconst 2, 1) := dk_5 (dk_at dksX0_parted_2 14 rfl rfl)
theorem dX0_parted_61 : decode cX0_parted 61 = .ok (.ireturn, 1) := dk_172 (dk_at dksX0_parted_2 15 rfl rfl)
abbrev cX0_above : ByteArray := prog_1_method_51_code
def yX0_above : MethodName := ⟨RX0, "above", "(Z)J"⟩
def dkwX0_above_2 : List UInt8 := [97, 173]
abbrev dktX0_above_2 : List UInt8 := dkwX0_above_2 ++ []
def dkwX0_above_1 : List UInt8 := [42, 3, 27, 4, 4, 182, 1, 107, 42, 4, 4, 4, 3, 182, 1, 107, 105, 42, 27, 3, 182, 1, 114, 105]
abbrev dktX0_above_1 : List UInt8 := dkwX0_above_1 ++ dktX0_above_2
def dkwX0_above_0 : List UInt8 := [42, 3, 27, 3, 4, 182, 1, 107, 42, 4, 4, 3, 3, 182, 1, 107, 105, 42, 27, 4, 182, 1, 114, 105]
abbrev dktX0_above_0 : List UInt8 := dkwX0_above_0 ++ dktX0_above_1
theorem dksX0_above_0 : cX0_above.data.toList.drop 0 = dktX0_above_0 := by decide +kernel
theorem dksX0_above_1 : cX0_above.data.toList.drop 24 = dktX0_above_1 := dk_seg dksX0_above_0 24 rfl rfl
theorem dksX0_above_2 : cX0_above.data.toList.drop 48 = dktX0_above_2 := dk_seg dksX0_above_1 24 rfl rfl
theorem dX0_above_0 : decode cX0_above 0 = .ok (.aload_n 0, 1) := dk_42 (dk_at dksX0_above_0 0 rfl rfl)
theorem dX0_above_1 : decode cX0_above 1 = .ok (.iconst 0, 1) := dk_3 (dk_at dksX0_above_0 1 rfl rfl)
theorem dX0_above_2 : decode cX0_above 2 = .ok (.iload_n 1, 1) := dk_27 (dk_at dksX0_above_0 2 rfl rfl)
theorem dX0_above_3 : decode cX0_above 3 = .ok (.iconst 0, 1) := dk_3 (dk_at dksX0_above_0 3 rfl rfl)
theorem dX0_above_4 : decode cX0_above 4 = .ok (.iconst 1, 1) := dk_4 (dk_at dksX0_above_0 4 rfl rfl)
theorem dX0_above_5 : decode cX0_above 5 = .ok (.invokevirtual 363, 3) := dk_182 1 107 (dk_at dksX0_above_0 5 rfl rfl)
theorem dX0_above_8 : decode cX0_above 8 = .ok (.aload_n 0, 1) := dk_42 (dk_at dksX0_above_0 8 rfl rfl)
theorem dX0_above_9 : decode cX0_above 9 = .ok (.iconst 1, 1) := dk_4 (dk_at dksX0_above_0 9 rfl rfl)
theorem dX0_above_10 : decode cX0_above 10 = .ok (.iconst 1, 1) := dk_4 (dk_at dksX0_above_0 10 rfl rfl)
theorem dX0_above_11 : decode cX0_above 11 = .ok (.iconst 0, 1) := dk_3 (dk_at dksX0_above_0 11 rfl rfl)
theorem dX0_above_12 : decode cX0_above 12 = .ok (.iconst 0, 1) := dk_3 (dk_at dksX0_above_0 12 rfl rfl)
theorem dX0_above_13 : decode cX0_above 13 = .ok (.invokevirtual 363, 3) := dk_182 1 107 (dk_at dksX0_above_0 13 rfl rfl)
theorem dX0_above_16 : decode cX0_above 16 = .ok (.lmul, 1) := dk_105 (dk_at dksX0_above_0 16 rfl rfl)
theorem dX0_above_17 : decode cX0_above 17 = .ok (.aload_n 0, 1) := dk_42 (dk_at dksX0_above_0 17 rfl rfl)
theorem dX0_above_18 : decode cX0_above 18 = .ok (.iload_n 1, 1) := dk_27 (dk_at dksX0_above_0 18 rfl rfl)
theorem dX0_above_19 : decode cX0_above 19 = .ok (.iconst 1, 1) := dk_4 (dk_at dksX0_above_0 19 rfl rfl)
theorem dX0_above_20 : decode cX0_above 20 = .ok (.invokevirtual 370, 3) := dk_182 1 114 (dk_at dksX0_above_0 20 rfl rfl)
theorem dX0_above_23 : decode cX0_above 23 = .ok (.lmul, 1) := dk_105 (dk_at dksX0_above_0 23 rfl rfl)
theorem dX0_above_24 : decode cX0_above 24 = .ok (.aload_n 0, 1) := dk_42 (dk_at dksX0_above_1 0 rfl rfl)
theorem dX0_above_25 : decode cX0_above 25 = .ok (.iconst 0, 1) := dk_3 (dk_at dksX0_above_1 1 rfl rfl)
theorem dX0_above_26 : decode cX0_above 26 = .ok (.iload_n 1, 1) := dk_27 (dk_at dksX0_above_1 2 rfl rfl)
theorem dX0_above_27 : decode cX0_above 27 = .ok (.iconst 1, 1) := dk_4 (dk_at dksX0_above_1 3 rfl rfl)
theorem dX0_above_28 : decode cX0_above 28 = .ok (.iconst 1, 1) := dk_4 (dk_at dksX0_above_1 4 rfl rfl)
theorem dX0_above_29 : decode cX0_above 29 = .ok (.invokevirtual 363, 3) := dk_182 1 107 (dk_at dksX0_above_1 5 rfl rfl)
theorem dX0_above_32 : decode cX0_above 32 = .ok (.aload_n 0, 1) := dk_42 (dk_at dksX0_above_1 8 rfl rfl)
theorem dX0_above_33 : decode cX0_above 33 = .ok (.iconst 1, 1) := dk_4 (dk_at dksX0_above_1 9 rfl rfl)
theorem dX0_above_34 : decode cX0_above 34 = .ok (.iconst 1, 1) := dk_4 (dk_at dksX0_above_1 10 rfl rfl)
theorem dX0_above_35 : decode cX0_above 35 = .ok (.iconst 1, 1) := dk_4 (dk_at dksX0_above_1 11 rfl rfl)
theorem dX0_above_36 : decode cX0_above 36 = .ok (.iconst 0, 1) := dk_3 (dk_at dksX0_above_1 12 rfl rfl)
theorem dX0_above_37 : decode cX0_above 37 = .ok (.invokevirtual 363, 3) := dk_182 1 107 (dk_at dksX0_above_1 13 rfl rfl)
theorem dX0_above_40 : decode cX0_above 40 = .ok (.lmul, 1) := dk_105 (dk_at dksX0_above_1 16 rfl rfl)
theorem dX0_above_41 : decode cX0_above 41 = .ok (.aload_n 0, 1) := dk_42 (dk_at dksX0_above_1 17 rfl rfl)
theorem dX0_above_42 : decode cX0_above 42 = .ok (.iload_n 1, 1) := dk_27 (dk_at dksX0_above_1 18 rfl rfl)
theorem dX0_above_43 : decode cX0_above 43 = .ok (.iconst 0, 1) := dk_3 (dk_at dksX0_above_1 19 rfl rfl)
theorem dX0_above_44 : decode cX0_above 44 = .ok (.invokevirtual 370, 3) := dk_182 1 114 (dk_at dksX0_above_1 20 rfl rfl)
theorem dX0_above_47 : decode cX0_above 47 = .ok (.lmul, 1) := dk_105 (dk_at dksX0_above_1 23 rfl rfl)
theorem dX0_above_48 : decode cX0_above 48 = .ok (.ladd, 1) := dk_97 (dk_at dksX0_above_2 0 rfl rfl)
theorem dX0_above_49 : decode cX0_above 49 = .ok (.lreturn, 1) := dk_173 (dk_at dksX0_above_2 1 rfl rfl)
abbrev cX0_sumOf : ByteArray := prog_1_method_49_code
def yX0_sumOf : MethodName := ⟨RX0, "sumOf", "(ZZIZ)J"⟩
def dkwX0_sumOf_4 : List UInt8 := [192, 1, 77, 180, 1, 94, 29, 46, 133, 97, 55, 5, 132, 7, 1, 167, 255, 157, 22, 5, 173]
abbrev dktX0_sumOf_4 : List UInt8 := dkwX0_sumOf_4 ++ []
def dkwX0_sumOf_3 : List UInt8 := [192, 1, 77, 180, 1, 97, 29, 46, 133, 167, 0, 24, 42, 180, 0, 10, 180, 1, 72, 21, 7, 182, 0, 133]
abbrev dktX0_sumOf_3 : List UInt8 := dkwX0_sumOf_3 ++ dktX0_sumOf_4
def dkwX0_sumOf_2 : List UInt8 := [160, 0, 58, 22, 5, 21, 4, 153, 0, 27, 42, 180, 0, 10, 180, 1, 72, 21, 7, 182, 0, 133]
abbrev dktX0_sumOf_2 : List UInt8 := dkwX0_sumOf_2 ++ dktX0_sumOf_3
def dkwX0_sumOf_1 : List UInt8 := [154, 0, 25, 42, 180, 0, 10, 180, 1, 72, 21, 7, 182, 0, 133, 192, 1, 77, 180, 1, 90, 28]
abbrev dktX0_sumOf_1 : List UInt8 := dkwX0_sumOf_1 ++ dktX0_sumOf_2
def dkwX0_sumOf_0 : List UInt8 := [9, 55, 5, 3, 54, 7, 21, 7, 42, 180, 0, 10, 180, 1, 72, 182, 0, 109, 162, 0, 90, 27]
abbrev dktX0_sumOf_0 : List UInt8 := dkwX0_sumOf_0 ++ dktX0_sumOf_1
theorem dksX0_sumOf_0 : cX0_sumOf.data.toList.drop 0 = dktX0_sumOf_0 := by decide +kernel
theorem dksX0_sumOf_1 : cX0_sumOf.data.toList.drop 22 = dktX0_sumOf_1 := dk_seg dksX0_sumOf_0 22 rfl rfl
theorem dksX0_sumOf_2 : cX0_sumOf.data.toList.drop 44 = dktX0_sumOf_2 := dk_seg dksX0_sumOf_1 22 rfl rfl
theorem dksX0_sumOf_3 : cX0_sumOf.data.toList.drop 66 = dktX0_sumOf_3 := dk_seg dksX0_sumOf_2 22 rfl rfl
theorem dksX0_sumOf_4 : cX0_sumOf.data.toList.drop 90 = dktX0_sumOf_4 := dk_seg dksX0_sumOf_3 24 rfl rfl
theorem dX0_sumOf_0 : decode cX0_sumOf 0 = .ok (.lconst 0, 1) := dk_9 (dk_at dksX0_sumOf_0 0 rfl rfl)
theorem dX0_sumOf_1 : decode cX0_sumOf 1 = .ok (.lstore 5, 2) := dk_55 5 (dk_at dksX0_sumOf_0 1 rfl rfl)
theorem dX0_sumOf_3 : decode cX0_sumOf 3 = .ok (.iconst 0, 1) := dk_3 (dk_at dksX0_sumOf_0 3 rfl rfl)
theorem dX0_sumOf_4 : decode cX0_sumOf 4 = .ok (.istore 7, 2) := dk_54 7 (dk_at dksX0_sumOf_0 4 rfl rfl)
theorem dX0_sumOf_6 : decode cX0_sumOf 6 = .ok (.iload 7, 2) := dk_21 7 (dk_at dksX0_sumOf_0 6 rfl rfl)
theorem dX0_sumOf_8 : decode cX0_sumOf 8 = .ok (.aload_n 0, 1) := dk_42 (dk_at dksX0_sumOf_0 8 rfl rfl)
theorem dX0_sumOf_9 : decode cX0_sumOf 9 = .ok (.getfield 10, 3) := dk_180 0 10 (dk_at dksX0_sumOf_0 9 rfl rfl)
theorem dX0_sumOf_12 : decode cX0_sumOf 12 = .ok (.getfield 328, 3) := dk_180 1 72 (dk_at dksX0_sumOf_0 12 rfl rfl)
theorem dX0_sumOf_15 : decode cX0_sumOf 15 = .ok (.invokevirtual 109, 3) := dk_182 0 109 (dk_at dksX0_sumOf_0 15 rfl rfl)
theorem dX0_sumOf_18 : decode cX0_sumOf 18 = .ok (.if_icmp .ge 90, 3) := dk_162 0 90 (dk_at dksX0_sumOf_0 18 rfl rfl)
theorem dX0_sumOf_21 : decode cX0_sumOf 21 = .ok (.iload_n 1, 1) := dk_27 (dk_at dksX0_sumOf_0 21 rfl rfl)
theorem dX0_sumOf_22 : decode cX0_sumOf 22 = .ok (.ifCond .ne 25, 3) := dk_154 0 25 (dk_at dksX0_sumOf_1 0 rfl rfl)
theorem dX0_sumOf_25 : decode cX0_sumOf 25 = .ok (.aload_n 0, 1) := dk_42 (dk_at dksX0_sumOf_1 3 rfl rfl)
theorem dX0_sumOf_26 : decode cX0_sumOf 26 = .ok (.getfield 10, 3) := dk_180 0 10 (dk_at dksX0_sumOf_1 4 rfl rfl)
theorem dX0_sumOf_29 : decode cX0_sumOf 29 = .ok (.getfield 328, 3) := dk_180 1 72 (dk_at dksX0_sumOf_1 7 rfl rfl)
theorem dX0_sumOf_32 : decode cX0_sumOf 32 = .ok (.iload 7, 2) := dk_21 7 (dk_at dksX0_sumOf_1 10 rfl rfl)
theorem dX0_sumOf_34 : decode cX0_sumOf 34 = .ok (.invokevirtual 133, 3) := dk_182 0 133 (dk_at dksX0_sumOf_1 12 rfl rfl)
theorem dX0_sumOf_37 : decode cX0_sumOf 37 = .ok (.checkcast 333, 3) := dk_192 1 77 (dk_at dksX0_sumOf_1 15 rfl rfl)
theorem dX0_sumOf_40 : decode cX0_sumOf 40 = .ok (.getfield 346, 3) := dk_180 1 90 (dk_at dksX0_sumOf_1 18 rfl rfl)
theorem dX0_sumOf_43 : decode cX0_sumOf 43 = .ok (.iload_n 2, 1) := dk_28 (dk_at dksX0_sumOf_1 21 rfl rfl)
theorem dX0_sumOf_44 : decode cX0_sumOf 44 = .ok (.if_icmp .ne 58, 3) := dk_160 0 58 (dk_at dksX0_sumOf_2 0 rfl rfl)
theorem dX0_sumOf_47 : decode cX0_sumOf 47 = .ok (.lload 5, 2) := dk_22 5 (dk_at dksX0_sumOf_2 3 rfl rfl)
theorem dX0_sumOf_49 : decode cX0_sumOf 49 = .ok (.iload 4, 2) := dk_21 4 (dk_at dksX0_sumOf_2 5 rfl rfl)
theorem dX0_sumOf_51 : decode cX0_sumOf 51 = .ok (.ifCond .eq 27, 3) := dk_153 0 27 (dk_at dksX0_sumOf_2 7 rfl rfl)
theorem dX0_sumOf_54 : decode cX0_sumOf 54 = .ok (.aload_n 0, 1) := dk_42 (dk_at dksX0_sumOf_2 10 rfl rfl)
theorem dX0_sumOf_55 : decode cX0_sumOf 55 = .ok (.getfield 10, 3) := dk_180 0 10 (dk_at dksX0_sumOf_2 11 rfl rfl)
theorem dX0_sumOf_58 : decode cX0_sumOf 58 = .ok (.getfield 328, 3) := dk_180 1 72 (dk_at dksX0_sumOf_2 14 rfl rfl)
theorem dX0_sumOf_61 : decode cX0_sumOf 61 = .ok (.iload 7, 2) := dk_21 7 (dk_at dksX0_sumOf_2 17 rfl rfl)
theorem dX0_sumOf_63 : decode cX0_sumOf 63 = .ok (.invokevirtual 133, 3) := dk_182 0 133 (dk_at dksX0_sumOf_2 19 rfl rfl)
theorem dX0_sumOf_66 : decode cX0_sumOf 66 = .ok (.checkcast 333, 3) := dk_192 1 77 (dk_at dksX0_sumOf_3 0 rfl rfl)
theorem dX0_sumOf_69 : decode cX0_sumOf 69 = .ok (.getfield 353, 3) := dk_180 1 97 (dk_at dksX0_sumOf_3 3 rfl rfl)
theorem dX0_sumOf_72 : decode cX0_sumOf 72 = .ok (.iload_n 3, 1) := dk_29 (dk_at dksX0_sumOf_3 6 rfl rfl)
theorem dX0_sumOf_73 : decode cX0_sumOf 73 = .ok (.iaload, 1) := dk_46 (dk_at dksX0_sumOf_3 7 rfl rfl)
theorem dX0_sumOf_74 : decode cX0_sumOf 74 = .ok (.i2l, 1) := dk_133 (dk_at dksX0_sumOf_3 8 rfl rfl)
theorem dX0_sumOf_75 : decode cX0_sumOf 75 = .ok (.goto 24, 3) := dk_167 0 24 (dk_at dksX0_sumOf_3 9 rfl rfl)
theorem dX0_sumOf_78 : decode cX0_sumOf 78 = .ok (.aload_n 0, 1) := dk_42 (dk_at dksX0_sumOf_3 12 rfl rfl)
theorem dX0_sumOf_79 : decode cX0_sumOf 79 = .ok (.getfield 10, 3) := dk_180 0 10 (dk_at dksX0_sumOf_3 13 rfl rfl)
theorem dX0_sumOf_82 : decode cX0_sumOf 82 = .ok (.getfield 328, 3) := dk_180 1 72 (dk_at dksX0_sumOf_3 16 rfl rfl)
theorem dX0_sumOf_85 : decode cX0_sumOf 85 = .ok (.iload 7, 2) := dk_21 7 (dk_at dksX0_sumOf_3 19 rfl rfl)
theorem dX0_sumOf_87 : decode cX0_sumOf 87 = .ok (.invokevirtual 133, 3) := dk_182 0 133 (dk_at dksX0_sumOf_3 21 rfl rfl)
theorem dX0_sumOf_90 : decode cX0_sumOf 90 = .ok (.checkcast 333, 3) := dk_192 1 77 (dk_at dksX0_sumOf_4 0 rfl rfl)
theorem dX0_sumOf_93 : decode cX0_sumOf 93 = .ok (.getfield 350, 3) := dk_180 1 94 (dk_at dksX0_sumOf_4 3 rfl rfl)
theorem dX0_sumOf_96 : decode cX0_sumOf 96 = .ok (.iload_n 3, 1) := dk_29 (dk_at dksX0_sumOf_4 6 rfl rfl)
theorem dX0_sumOf_97 : decode cX0_sumOf 97 = .ok (.iaload, 1) := dk_46 (dk_at dksX0_sumOf_4 7 rfl rfl)
theorem dX0_sumOf_98 : decode cX0_sumOf 98 = .ok (.i2l, 1) := dk_133 (dk_at dksX0_sumOf_4 8 rfl rfl)
theorem dX0_sumOf_99 : decode cX0_sumOf 99 = .ok (.ladd, 1) := dk_97 (dk_at dksX0_sumOf_4 9 rfl rfl)
theorem dX0_sumOf_100 : decode cX0_sumOf 100 = .ok (.lstore 5, 2) := dk_55 5 (dk_at dksX0_sumOf_4 10 rfl rfl)
theorem dX0_sumOf_102 : decode cX0_sumOf 102 = .ok (.iinc 7 1, 3) := dk_132 7 1 (dk_at dksX0_sumOf_4 12 rfl rfl)
theorem dX0_sumOf_105 : decode cX0_sumOf 105 = .ok (.goto (-99), 3) := dk_167 255 157 (dk_at dksX0_sumOf_4 15 rfl rfl)
theorem dX0_sumOf_108 : decode cX0_sumOf 108 = .ok (.lload 5, 2) := dk_22 5 (dk_at dksX0_sumOf_4 18 rfl rfl)
theorem dX0_sumOf_110 : decode cX0_sumOf 110 = .ok (.lreturn, 1) := dk_173 (dk_at dksX0_sumOf_4 20 rfl rfl)
abbrev cX0_below : ByteArray := prog_1_method_50_code
def yX0_below : MethodName := ⟨RX0, "below", "(ZI)J"⟩
def dkwX0_below_0 : List UInt8 := [10, 42, 3, 27, 28, 3, 182, 1, 107, 184, 1, 111, 173]
abbrev dktX0_below_0 : List UInt8 := dkwX0_below_0 ++ []
theorem dksX0_below_0 : cX0_below.data.toList.drop 0 = dktX0_below_0 := by decide +kernel
theorem dX0_below_0 : decode cX0_below 0 = .ok (.lconst 1, 1) := dk_10 (dk_at dksX0_below_0 0 rfl rfl)
theorem dX0_below_1 : decode cX0_below 1 = .ok (.aload_n 0, 1) := dk_42 (dk_at dksX0_below_0 1 rfl rfl)
theorem dX0_below_2 : decode cX0_below 2 = .ok (.iconst 0, 1) := dk_3 (dk_at dksX0_below_0 2 rfl rfl)
theorem dX0_below_3 : decode cX0_below 3 = .ok (.iload_n 1, 1) := dk_27 (dk_at dksX0_below_0 3 rfl rfl)
theorem dX0_below_4 : decode cX0_below 4 = .ok (.iload_n 2, 1) := dk_28 (dk_at dksX0_below_0 4 rfl rfl)
theorem dX0_below_5 : decode cX0_below 5 = .ok (.iconst 0, 1) := dk_3 (dk_at dksX0_below_0 5 rfl rfl)
theorem dX0_below_6 : decode cX0_below 6 = .ok (.invokevirtual 363, 3) := dk_182 1 107 (dk_at dksX0_below_0 6 rfl rfl)
theorem dX0_below_9 : decode cX0_below 9 = .ok (.invokestatic 367, 3) := dk_184 1 111 (dk_at dksX0_below_0 9 rfl rfl)
theorem dX0_below_12 : decode cX0_below 12 = .ok (.lreturn, 1) := dk_173 (dk_at dksX0_below_0 12 rfl rfl)
abbrev cX0_worst : ByteArray := prog_1_method_57_code
def yX0_worst : MethodName := ⟨RX0, "worst", "(II)I"⟩
def dkwX0_worst_4 : List UInt8 := [182, 1, 142, 182, 1, 139, 167, 0, 9, 42, 21, 4, 182, 1, 142, 172]
abbrev dktX0_worst_4 : List UInt8 := dkwX0_worst_4 ++ []
def dkwX0_worst_3 : List UInt8 := [4, 160, 0, 12, 42, 21, 4, 182, 1, 139, 167, 0, 27, 28, 5, 160, 0, 16, 42, 42, 21, 4]
abbrev dktX0_worst_3 : List UInt8 := dkwX0_worst_3 ++ dktX0_worst_4
def dkwX0_worst_2 : List UInt8 := [19, 1, 135, 182, 0, 73, 172, 42, 27, 182, 1, 136, 54, 4, 28, 154, 0, 8, 21, 4, 167, 0, 41, 28]
abbrev dktX0_worst_2 : List UInt8 := dkwX0_worst_2 ++ dktX0_worst_3
def dkwX0_worst_1 : List UInt8 := [9, 20, 0, 131, 184, 0, 81, 153, 0, 15, 28, 4, 164, 0, 18, 5, 27, 104, 29, 164, 0, 11, 42]
abbrev dktX0_worst_1 : List UInt8 := dkwX0_worst_1 ++ dktX0_worst_2
def dkwX0_worst_0 : List UInt8 := [42, 180, 0, 10, 180, 1, 72, 182, 0, 109, 62, 27, 133, 9, 29, 133, 184, 0, 81, 153, 0, 27, 28, 133]
abbrev dktX0_worst_0 : List UInt8 := dkwX0_worst_0 ++ dktX0_worst_1
theorem dksX0_worst_0 : cX0_worst.data.toList.drop 0 = dktX0_worst_0 := by decide +kernel
theorem dksX0_worst_1 : cX0_worst.data.toList.drop 24 = dktX0_worst_1 := dk_seg dksX0_worst_0 24 rfl rfl
theorem dksX0_worst_2 : cX0_worst.data.toList.drop 47 = dktX0_worst_2 := dk_seg dksX0_worst_1 23 rfl rfl
theorem dksX0_worst_3 : cX0_worst.data.toList.drop 71 = dktX0_worst_3 := dk_seg dksX0_worst_2 24 rfl rfl
theorem dksX0_worst_4 : cX0_worst.data.toList.drop 93 = dktX0_worst_4 := dk_seg dksX0_worst_3 22 rfl rfl
theorem dX0_worst_0 : decode cX0_worst 0 = .ok (.aload_n 0, 1) := dk_42 (dk_at dksX0_worst_0 0 rfl rfl)
theorem dX0_worst_1 : decode cX0_worst 1 = .ok (.getfield 10, 3) := dk_180 0 10 (dk_at dksX0_worst_0 1 rfl rfl)
theorem dX0_worst_4 : decode cX0_worst 4 = .ok (.getfield 328, 3) := dk_180 1 72 (dk_at dksX0_worst_0 4 rfl rfl)
theorem dX0_worst_7 : decode cX0_worst 7 = .ok (.invokevirtual 109, 3) := dk_182 0 109 (dk_at dksX0_worst_0 7 rfl rfl)
theorem dX0_worst_10 : decode cX0_worst 10 = .ok (.istore_n 3, 1) := dk_62 (dk_at dksX0_worst_0 10 rfl rfl)
theorem dX0_worst_11 : decode cX0_worst 11 = .ok (.iload_n 1, 1) := dk_27 (dk_at dksX0_worst_0 11 rfl rfl)
theorem dX0_worst_12 : decode cX0_worst 12 = .ok (.i2l, 1) := dk_133 (dk_at dksX0_worst_0 12 rfl rfl)
theorem dX0_worst_13 : decode cX0_worst 13 = .ok (.lconst 0, 1) := dk_9 (dk_at dksX0_worst_0 13 rfl rfl)
theorem dX0_worst_14 : decode cX0_worst 14 = .ok (.iload_n 3, 1) := dk_29 (dk_at dksX0_worst_0 14 rfl rfl)
theorem dX0_worst_15 : decode cX0_worst 15 = .ok (.i2l, 1) := dk_133 (dk_at dksX0_worst_0 15 rfl rfl)
theorem dX0_worst_16 : decode cX0_worst 16 = .ok (.invokestatic 81, 3) := dk_184 0 81 (dk_at dksX0_worst_0 16 rfl rfl)
theorem dX0_worst_19 : decode cX0_worst 19 = .ok (.ifCond .eq 27, 3) := dk_153 0 27 (dk_at dksX0_worst_0 19 rfl rfl)
theorem dX0_worst_22 : decode cX0_worst 22 = .ok (.iload_n 2, 1) := dk_28 (dk_at dksX0_worst_0 22 rfl rfl)
theorem dX0_worst_23 : decode cX0_worst 23 = .ok (.i2l, 1) := dk_133 (dk_at dksX0_worst_0 23 rfl rfl)
theorem dX0_worst_24 : decode cX0_worst 24 = .ok (.lconst 0, 1) := dk_9 (dk_at dksX0_worst_1 0 rfl rfl)
theorem dX0_worst_25 : decode cX0_worst 25 = .ok (.ldc2_w 131, 3) := dk_20 0 131 (dk_at dksX0_worst_1 1 rfl rfl)
theorem dX0_worst_28 : decode cX0_worst 28 = .ok (.invokestatic 81, 3) := dk_184 0 81 (dk_at dksX0_worst_1 4 rfl rfl)
theorem dX0_worst_31 : decode cX0_worst 31 = .ok (.ifCond .eq 15, 3) := dk_153 0 15 (dk_at dksX0_worst_1 7 rfl rfl)
theorem dX0_worst_34 : decode cX0_worst 34 = .ok (.iload_n 2, 1) := dk_28 (dk_at dksX0_worst_1 10 rfl rfl)
theorem dX0_worst_35 : decode cX0_worst 35 = .ok (.iconst 1, 1) := dk_4 (dk_at dksX0_worst_1 11 rfl rfl)
theorem dX0_worst_36 : decode cX0_worst 36 = .ok (.if_icmp .le 18, 3) := dk_164 0 18 (dk_at dksX0_worst_1 12 rfl rfl)
theorem dX0_worst_39 : decode cX0_worst 39 = .ok (.iconst 2, 1) := dk_5 (dk_at dksX0_worst_1 15 rfl rfl)
theorem dX0_worst_40 : decode cX0_worst 40 = .ok (.iload_n 1, 1) := dk_27 (dk_at dksX0_worst_1 16 rfl rfl)
theorem dX0_worst_41 : decode cX0_worst 41 = .ok (.imul, 1) := dk_104 (dk_at dksX0_worst_1 17 rfl rfl)
theorem dX0_worst_42 : decode cX0_worst 42 = .ok (.iload_n 3, 1) := dk_29 (dk_at dksX0_worst_1 18 rfl rfl)
theorem dX0_worst_43 : decode cX0_worst 43 = .ok (.if_icmp .le 11, 3) := dk_164 0 11 (dk_at dksX0_worst_1 19 rfl rfl)
theorem dX0_worst_46 : decode cX0_worst 46 = .ok (.aload_n 0, 1) := dk_42 (dk_at dksX0_worst_1 22 rfl rfl)
theorem dX0_worst_47 : decode cX0_worst 47 = .ok (.ldc_w 391, 3) := dk_19 1 135 (dk_at dksX0_worst_2 0 rfl rfl)
theorem dX0_worst_50 : decode cX0_worst 50 = .ok (.invokevirtual 73, 3) := dk_182 0 73 (dk_at dksX0_worst_2 3 rfl rfl)
theorem dX0_worst_53 : decode cX0_worst 53 = .ok (.ireturn, 1) := dk_172 (dk_at dksX0_worst_2 6 rfl rfl)
theorem dX0_worst_54 : decode cX0_worst 54 = .ok (.aload_n 0, 1) := dk_42 (dk_at dksX0_worst_2 7 rfl rfl)
theorem dX0_worst_55 : decode cX0_worst 55 = .ok (.iload_n 1, 1) := dk_27 (dk_at dksX0_worst_2 8 rfl rfl)
theorem dX0_worst_56 : decode cX0_worst 56 = .ok (.invokevirtual 392, 3) := dk_182 1 136 (dk_at dksX0_worst_2 9 rfl rfl)
theorem dX0_worst_59 : decode cX0_worst 59 = .ok (.istore 4, 2) := dk_54 4 (dk_at dksX0_worst_2 12 rfl rfl)
theorem dX0_worst_61 : decode cX0_worst 61 = .ok (.iload_n 2, 1) := dk_28 (dk_at dksX0_worst_2 14 rfl rfl)
theorem dX0_worst_62 : decode cX0_worst 62 = .ok (.ifCond .ne 8, 3) := dk_154 0 8 (dk_at dksX0_worst_2 15 rfl rfl)
theorem dX0_worst_65 : decode cX0_worst 65 = .ok (.iload 4, 2) := dk_21 4 (dk_at dksX0_worst_2 18 rfl rfl)
theorem dX0_worst_67 : decode cX0_worst 67 = .ok (.goto 41, 3) := dk_167 0 41 (dk_at dksX0_worst_2 20 rfl rfl)
theorem dX0_worst_70 : decode cX0_worst 70 = .ok (.iload_n 2, 1) := dk_28 (dk_at dksX0_worst_2 23 rfl rfl)
theorem dX0_worst_71 : decode cX0_worst 71 = .ok (.iconst 1, 1) := dk_4 (dk_at dksX0_worst_3 0 rfl rfl)
theorem dX0_worst_72 : decode cX0_worst 72 = .ok (.if_icmp .ne 12, 3) := dk_160 0 12 (dk_at dksX0_worst_3 1 rfl rfl)
theorem dX0_worst_75 : decode cX0_worst 75 = .ok (.aload_n 0, 1) := dk_42 (dk_at dksX0_worst_3 4 rfl rfl)
theorem dX0_worst_76 : decode cX0_worst 76 = .ok (.iload 4, 2) := dk_21 4 (dk_at dksX0_worst_3 5 rfl rfl)
theorem dX0_worst_78 : decode cX0_worst 78 = .ok (.invokevirtual 395, 3) := dk_182 1 139 (dk_at dksX0_worst_3 7 rfl rfl)
theorem dX0_worst_81 : decode cX0_worst 81 = .ok (.goto 27, 3) := dk_167 0 27 (dk_at dksX0_worst_3 10 rfl rfl)
theorem dX0_worst_84 : decode cX0_worst 84 = .ok (.iload_n 2, 1) := dk_28 (dk_at dksX0_worst_3 13 rfl rfl)
theorem dX0_worst_85 : decode cX0_worst 85 = .ok (.iconst 2, 1) := dk_5 (dk_at dksX0_worst_3 14 rfl rfl)
theorem dX0_worst_86 : decode cX0_worst 86 = .ok (.if_icmp .ne 16, 3) := dk_160 0 16 (dk_at dksX0_worst_3 15 rfl rfl)
theorem dX0_worst_89 : decode cX0_worst 89 = .ok (.aload_n 0, 1) := dk_42 (dk_at dksX0_worst_3 18 rfl rfl)
theorem dX0_worst_90 : decode cX0_worst 90 = .ok (.aload_n 0, 1) := dk_42 (dk_at dksX0_worst_3 19 rfl rfl)
theorem dX0_worst_91 : decode cX0_worst 91 = .ok (.iload 4, 2) := dk_21 4 (dk_at dksX0_worst_3 20 rfl rfl)
theorem dX0_worst_93 : decode cX0_worst 93 = .ok (.invokevirtual 398, 3) := dk_182 1 142 (dk_at dksX0_worst_4 0 rfl rfl)
theorem dX0_worst_96 : decode cX0_worst 96 = .ok (.invokevirtual 395, 3) := dk_182 1 139 (dk_at dksX0_worst_4 3 rfl rfl)
theorem dX0_worst_99 : decode cX0_worst 99 = .ok (.goto 9, 3) := dk_167 0 9 (dk_at dksX0_worst_4 6 rfl rfl)
theorem dX0_worst_102 : decode cX0_worst 102 = .ok (.aload_n 0, 1) := dk_42 (dk_at dksX0_worst_4 9 rfl rfl)
theorem dX0_worst_103 : decode cX0_worst 103 = .ok (.iload 4, 2) := dk_21 4 (dk_at dksX0_worst_4 10 rfl rfl)
theorem dX0_worst_105 : decode cX0_worst 105 = .ok (.invokevirtual 398, 3) := dk_182 1 142 (dk_at dksX0_worst_4 12 rfl rfl)
theorem dX0_worst_108 : decode cX0_worst 108 = .ok (.ireturn, 1) := dk_172 (dk_at dksX0_worst_4 15 rfl rfl)
abbrev cX0_worstOf : ByteArray := prog_1_method_53_code
def yX0_worstOf : MethodName := ⟨RX0, "worstOf", "(I)I"⟩
def dkwX0_worstOf_4 : List UInt8 := [28, 4, 21, 4, 120, 128, 61, 132, 3, 1, 167, 255, 156, 28, 172]
abbrev dktX0_worstOf_4 : List UInt8 := dkwX0_worstOf_4 ++ []
def dkwX0_worstOf_3 : List UInt8 := [21, 4, 182, 0, 133, 192, 1, 77, 182, 1, 103, 164, 0, 7, 21, 5, 54, 4, 132, 5, 1, 167, 255, 180]
abbrev dktX0_worstOf_3 : List UInt8 := dkwX0_worstOf_3 ++ dktX0_worstOf_4
def dkwX0_worstOf_2 : List UInt8 := [180, 0, 10, 180, 1, 72, 21, 5, 182, 0, 133, 192, 1, 77, 182, 1, 103, 42, 180, 0, 10, 180, 1, 72]
abbrev dktX0_worstOf_2 : List UInt8 := dkwX0_worstOf_2 ++ dktX0_worstOf_3
def dkwX0_worstOf_1 : List UInt8 := [182, 0, 109, 162, 0, 67, 28, 21, 5, 184, 1, 122, 154, 0, 52, 21, 4, 2, 159, 0, 42, 42]
abbrev dktX0_worstOf_1 : List UInt8 := dkwX0_worstOf_1 ++ dktX0_worstOf_2
def dkwX0_worstOf_0 : List UInt8 := [3, 61, 3, 62, 29, 27, 162, 0, 101, 2, 54, 4, 3, 54, 5, 21, 5, 42, 180, 0, 10, 180, 1, 72]
abbrev dktX0_worstOf_0 : List UInt8 := dkwX0_worstOf_0 ++ dktX0_worstOf_1
theorem dksX0_worstOf_0 : cX0_worstOf.data.toList.drop 0 = dktX0_worstOf_0 := by decide +kernel
theorem dksX0_worstOf_1 : cX0_worstOf.data.toList.drop 24 = dktX0_worstOf_1 := dk_seg dksX0_worstOf_0 24 rfl rfl
theorem dksX0_worstOf_2 : cX0_worstOf.data.toList.drop 46 = dktX0_worstOf_2 := dk_seg dksX0_worstOf_1 22 rfl rfl
theorem dksX0_worstOf_3 : cX0_worstOf.data.toList.drop 70 = dktX0_worstOf_3 := dk_seg dksX0_worstOf_2 24 rfl rfl
theorem dksX0_worstOf_4 : cX0_worstOf.data.toList.drop 94 = dktX0_worstOf_4 := dk_seg dksX0_worstOf_3 24 rfl rfl
theorem dX0_worstOf_0 : decode cX0_worstOf 0 = .ok (.iconst 0, 1) := dk_3 (dk_at dksX0_worstOf_0 0 rfl rfl)
theorem dX0_worstOf_1 : decode cX0_worstOf 1 = .ok (.istore_n 2, 1) := dk_61 (dk_at dksX0_worstOf_0 1 rfl rfl)
theorem dX0_worstOf_2 : decode cX0_worstOf 2 = .ok (.iconst 0, 1) := dk_3 (dk_at dksX0_worstOf_0 2 rfl rfl)
theorem dX0_worstOf_3 : decode cX0_worstOf 3 = .ok (.istore_n 3, 1) := dk_62 (dk_at dksX0_worstOf_0 3 rfl rfl)
theorem dX0_worstOf_4 : decode cX0_worstOf 4 = .ok (.iload_n 3, 1) := dk_29 (dk_at dksX0_worstOf_0 4 rfl rfl)
theorem dX0_worstOf_5 : decode cX0_worstOf 5 = .ok (.iload_n 1, 1) := dk_27 (dk_at dksX0_worstOf_0 5 rfl rfl)
theorem dX0_worstOf_6 : decode cX0_worstOf 6 = .ok (.if_icmp .ge 101, 3) := dk_162 0 101 (dk_at dksX0_worstOf_0 6 rfl rfl)
theorem dX0_worstOf_9 : decode cX0_worstOf 9 = .ok (.iconst (-1), 1) := dk_2 (dk_at dksX0_worstOf_0 9 rfl rfl)
theorem dX0_worstOf_10 : decode cX0_worstOf 10 = .ok (.istore 4, 2) := dk_54 4 (dk_at dksX0_worstOf_0 10 rfl rfl)
theorem dX0_worstOf_12 : decode cX0_worstOf 12 = .ok (.iconst 0, 1) := dk_3 (dk_at dksX0_worstOf_0 12 rfl rfl)
theorem dX0_worstOf_13 : decode cX0_worstOf 13 = .ok (.istore 5, 2) := dk_54 5 (dk_at dksX0_worstOf_0 13 rfl rfl)
theorem dX0_worstOf_15 : decode cX0_worstOf 15 = .ok (.iload 5, 2) := dk_21 5 (dk_at dksX0_worstOf_0 15 rfl rfl)
theorem dX0_worstOf_17 : decode cX0_worstOf 17 = .ok (.aload_n 0, 1) := dk_42 (dk_at dksX0_worstOf_0 17 rfl rfl)
theorem dX0_worstOf_18 : decode cX0_worstOf 18 = .ok (.getfield 10, 3) := dk_180 0 10 (dk_at dksX0_worstOf_0 18 rfl rfl)
theorem dX0_worstOf_21 : decode cX0_worstOf 21 = .ok (.getfield 328, 3) := dk_180 1 72 (dk_at dksX0_worstOf_0 21 rfl rfl)
theorem dX0_worstOf_24 : decode cX0_worstOf 24 = .ok (.invokevirtual 109, 3) := dk_182 0 109 (dk_at dksX0_worstOf_1 0 rfl rfl)
theorem dX0_worstOf_27 : decode cX0_worstOf 27 = .ok (.if_icmp .ge 67, 3) := dk_162 0 67 (dk_at dksX0_worstOf_1 3 rfl rfl)
theorem dX0_worstOf_30 : decode cX0_worstOf 30 = .ok (.iload_n 2, 1) := dk_28 (dk_at dksX0_worstOf_1 6 rfl rfl)
theorem dX0_worstOf_31 : decode cX0_worstOf 31 = .ok (.iload 5, 2) := dk_21 5 (dk_at dksX0_worstOf_1 7 rfl rfl)
theorem dX0_worstOf_33 : decode cX0_worstOf 33 = .ok (.invokestatic 378, 3) := dk_184 1 122 (dk_at dksX0_worstOf_1 9 rfl rfl)
theorem dX0_worstOf_36 : decode cX0_worstOf 36 = .ok (.ifCond .ne 52, 3) := dk_154 0 52 (dk_at dksX0_worstOf_1 12 rfl rfl)
theorem dX0_worstOf_39 : decode cX0_worstOf 39 = .ok (.iload 4, 2) := dk_21 4 (dk_at dksX0_worstOf_1 15 rfl rfl)
theorem dX0_worstOf_41 : decode cX0_worstOf 41 = .ok (.iconst (-1), 1) := dk_2 (dk_at dksX0_worstOf_1 17 rfl rfl)
theorem dX0_worstOf_42 : decode cX0_worstOf 42 = .ok (.if_icmp .eq 42, 3) := dk_159 0 42 (dk_at dksX0_worstOf_1 18 rfl rfl)
theorem dX0_worstOf_45 : decode cX0_worstOf 45 = .ok (.aload_n 0, 1) := dk_42 (dk_at dksX0_worstOf_1 21 rfl rfl)
theorem dX0_worstOf_46 : decode cX0_worstOf 46 = .ok (.getfield 10, 3) := dk_180 0 10 (dk_at dksX0_worstOf_2 0 rfl rfl)
theorem dX0_worstOf_49 : decode cX0_worstOf 49 = .ok (.getfield 328, 3) := dk_180 1 72 (dk_at dksX0_worstOf_2 3 rfl rfl)
theorem dX0_worstOf_52 : decode cX0_worstOf 52 = .ok (.iload 5, 2) := dk_21 5 (dk_at dksX0_worstOf_2 6 rfl rfl)
theorem dX0_worstOf_54 : decode cX0_worstOf 54 = .ok (.invokevirtual 133, 3) := dk_182 0 133 (dk_at dksX0_worstOf_2 8 rfl rfl)
theorem dX0_worstOf_57 : decode cX0_worstOf 57 = .ok (.checkcast 333, 3) := dk_192 1 77 (dk_at dksX0_worstOf_2 11 rfl rfl)
theorem dX0_worstOf_60 : decode cX0_worstOf 60 = .ok (.invokevirtual 359, 3) := dk_182 1 103 (dk_at dksX0_worstOf_2 14 rfl rfl)
theorem dX0_worstOf_63 : decode cX0_worstOf 63 = .ok (.aload_n 0, 1) := dk_42 (dk_at dksX0_worstOf_2 17 rfl rfl)
theorem dX0_worstOf_64 : decode cX0_worstOf 64 = .ok (.getfield 10, 3) := dk_180 0 10 (dk_at dksX0_worstOf_2 18 rfl rfl)
theorem dX0_worstOf_67 : decode cX0_worstOf 67 = .ok (.getfield 328, 3) := dk_180 1 72 (dk_at dksX0_worstOf_2 21 rfl rfl)
theorem dX0_worstOf_70 : decode cX0_worstOf 70 = .ok (.iload 4, 2) := dk_21 4 (dk_at dksX0_worstOf_3 0 rfl rfl)
theorem dX0_worstOf_72 : decode cX0_worstOf 72 = .ok (.invokevirtual 133, 3) := dk_182 0 133 (dk_at dksX0_worstOf_3 2 rfl rfl)
theorem dX0_worstOf_75 : decode cX0_worstOf 75 = .ok (.checkcast 333, 3) := dk_192 1 77 (dk_at dksX0_worstOf_3 5 rfl rfl)
theorem dX0_worstOf_78 : decode cX0_worstOf 78 = .ok (.invokevirtual 359, 3) := dk_182 1 103 (dk_at dksX0_worstOf_3 8 rfl rfl)
theorem dX0_worstOf_81 : decode cX0_worstOf 81 = .ok (.if_icmp .le 7, 3) := dk_164 0 7 (dk_at dksX0_worstOf_3 11 rfl rfl)
theorem dX0_worstOf_84 : decode cX0_worstOf 84 = .ok (.iload 5, 2) := dk_21 5 (dk_at dksX0_worstOf_3 14 rfl rfl)
theorem dX0_worstOf_86 : decode cX0_worstOf 86 = .ok (.istore 4, 2) := dk_54 4 (dk_at dksX0_worstOf_3 16 rfl rfl)
theorem dX0_worstOf_88 : decode cX0_worstOf 88 = .ok (.iinc 5 1, 3) := dk_132 5 1 (dk_at dksX0_worstOf_3 18 rfl rfl)
theorem dX0_worstOf_91 : decode cX0_worstOf 91 = .ok (.goto (-76), 3) := dk_167 255 180 (dk_at dksX0_worstOf_3 21 rfl rfl)
theorem dX0_worstOf_94 : decode cX0_worstOf 94 = .ok (.iload_n 2, 1) := dk_28 (dk_at dksX0_worstOf_4 0 rfl rfl)
theorem dX0_worstOf_95 : decode cX0_worstOf 95 = .ok (.iconst 1, 1) := dk_4 (dk_at dksX0_worstOf_4 1 rfl rfl)
theorem dX0_worstOf_96 : decode cX0_worstOf 96 = .ok (.iload 4, 2) := dk_21 4 (dk_at dksX0_worstOf_4 2 rfl rfl)
theorem dX0_worstOf_98 : decode cX0_worstOf 98 = .ok (.ishl, 1) := dk_120 (dk_at dksX0_worstOf_4 4 rfl rfl)
theorem dX0_worstOf_99 : decode cX0_worstOf 99 = .ok (.ior, 1) := dk_128 (dk_at dksX0_worstOf_4 5 rfl rfl)
theorem dX0_worstOf_100 : decode cX0_worstOf 100 = .ok (.istore_n 2, 1) := dk_61 (dk_at dksX0_worstOf_4 6 rfl rfl)
theorem dX0_worstOf_101 : decode cX0_worstOf 101 = .ok (.iinc 3 1, 3) := dk_132 3 1 (dk_at dksX0_worstOf_4 7 rfl rfl)
theorem dX0_worstOf_104 : decode cX0_worstOf 104 = .ok (.goto (-100), 3) := dk_167 255 156 (dk_at dksX0_worstOf_4 10 rfl rfl)
theorem dX0_worstOf_107 : decode cX0_worstOf 107 = .ok (.iload_n 2, 1) := dk_28 (dk_at dksX0_worstOf_4 13 rfl rfl)
theorem dX0_worstOf_108 : decode cX0_worstOf 108 = .ok (.ireturn, 1) := dk_172 (dk_at dksX0_worstOf_4 14 rfl rfl)
abbrev cX0_fallOf : ByteArray := prog_1_method_54_code
def yX0_fallOf : MethodName := ⟨RX0, "fallOf", "(I)I"⟩
def dkwX0_fallOf_2 : List UInt8 := [96, 61, 132, 3, 1, 167, 255, 207, 28, 172]
abbrev dktX0_fallOf_2 : List UInt8 := dkwX0_fallOf_2 ++ []
def dkwX0_fallOf_1 : List UInt8 := [153, 0, 23, 42, 180, 0, 10, 180, 1, 72, 29, 182, 0, 133, 192, 1, 77, 182, 1, 126, 167, 0, 4, 3]
abbrev dktX0_fallOf_1 : List UInt8 := dkwX0_fallOf_1 ++ dktX0_fallOf_2
def dkwX0_fallOf_0 : List UInt8 := [3, 61, 3, 62, 29, 42, 180, 0, 10, 180, 1, 72, 182, 0, 109, 162, 0, 41, 28, 27, 29, 184, 1, 122]
abbrev dktX0_fallOf_0 : List UInt8 := dkwX0_fallOf_0 ++ dktX0_fallOf_1
theorem dksX0_fallOf_0 : cX0_fallOf.data.toList.drop 0 = dktX0_fallOf_0 := by decide +kernel
theorem dksX0_fallOf_1 : cX0_fallOf.data.toList.drop 24 = dktX0_fallOf_1 := dk_seg dksX0_fallOf_0 24 rfl rfl
theorem dksX0_fallOf_2 : cX0_fallOf.data.toList.drop 48 = dktX0_fallOf_2 := dk_seg dksX0_fallOf_1 24 rfl rfl
theorem dX0_fallOf_0 : decode cX0_fallOf 0 = .ok (.iconst 0, 1) := dk_3 (dk_at dksX0_fallOf_0 0 rfl rfl)
theorem dX0_fallOf_1 : decode cX0_fallOf 1 = .ok (.istore_n 2, 1) := dk_61 (dk_at dksX0_fallOf_0 1 rfl rfl)
theorem dX0_fallOf_2 : decode cX0_fallOf 2 = .ok (.iconst 0, 1) := dk_3 (dk_at dksX0_fallOf_0 2 rfl rfl)
theorem dX0_fallOf_3 : decode cX0_fallOf 3 = .ok (.istore_n 3, 1) := dk_62 (dk_at dksX0_fallOf_0 3 rfl rfl)
theorem dX0_fallOf_4 : decode cX0_fallOf 4 = .ok (.iload_n 3, 1) := dk_29 (dk_at dksX0_fallOf_0 4 rfl rfl)
theorem dX0_fallOf_5 : decode cX0_fallOf 5 = .ok (.aload_n 0, 1) := dk_42 (dk_at dksX0_fallOf_0 5 rfl rfl)
theorem dX0_fallOf_6 : decode cX0_fallOf 6 = .ok (.getfield 10, 3) := dk_180 0 10 (dk_at dksX0_fallOf_0 6 rfl rfl)
theorem dX0_fallOf_9 : decode cX0_fallOf 9 = .ok (.getfield 328, 3) := dk_180 1 72 (dk_at dksX0_fallOf_0 9 rfl rfl)
theorem dX0_fallOf_12 : decode cX0_fallOf 12 = .ok (.invokevirtual 109, 3) := dk_182 0 109 (dk_at dksX0_fallOf_0 12 rfl rfl)
theorem dX0_fallOf_15 : decode cX0_fallOf 15 = .ok (.if_icmp .ge 41, 3) := dk_162 0 41 (dk_at dksX0_fallOf_0 15 rfl rfl)
theorem dX0_fallOf_18 : decode cX0_fallOf 18 = .ok (.iload_n 2, 1) := dk_28 (dk_at dksX0_fallOf_0 18 rfl rfl)
theorem dX0_fallOf_19 : decode cX0_fallOf 19 = .ok (.iload_n 1, 1) := dk_27 (dk_at dksX0_fallOf_0 19 rfl rfl)
theorem dX0_fallOf_20 : decode cX0_fallOf 20 = .ok (.iload_n 3, 1) := dk_29 (dk_at dksX0_fallOf_0 20 rfl rfl)
theorem dX0_fallOf_21 : decode cX0_fallOf 21 = .ok (.invokestatic 378, 3) := dk_184 1 122 (dk_at dksX0_fallOf_0 21 rfl rfl)
theorem dX0_fallOf_24 : decode cX0_fallOf 24 = .ok (.ifCond .eq 23, 3) := dk_153 0 23 (dk_at dksX0_fallOf_1 0 rfl rfl)
theorem dX0_fallOf_27 : decode cX0_fallOf 27 = .ok (.aload_n 0, 1) := dk_42 (dk_at dksX0_fallOf_1 3 rfl rfl)
theorem dX0_fallOf_28 : decode cX0_fallOf 28 = .ok (.getfield 10, 3) := dk_180 0 10 (dk_at dksX0_fallOf_1 4 rfl rfl)
theorem dX0_fallOf_31 : decode cX0_fallOf 31 = .ok (.getfield 328, 3) := dk_180 1 72 (dk_at dksX0_fallOf_1 7 rfl rfl)
theorem dX0_fallOf_34 : decode cX0_fallOf 34 = .ok (.iload_n 3, 1) := dk_29 (dk_at dksX0_fallOf_1 10 rfl rfl)
theorem dX0_fallOf_35 : decode cX0_fallOf 35 = .ok (.invokevirtual 133, 3) := dk_182 0 133 (dk_at dksX0_fallOf_1 11 rfl rfl)
theorem dX0_fallOf_38 : decode cX0_fallOf 38 = .ok (.checkcast 333, 3) := dk_192 1 77 (dk_at dksX0_fallOf_1 14 rfl rfl)
theorem dX0_fallOf_41 : decode cX0_fallOf 41 = .ok (.invokevirtual 382, 3) := dk_182 1 126 (dk_at dksX0_fallOf_1 17 rfl rfl)
theorem dX0_fallOf_44 : decode cX0_fallOf 44 = .ok (.goto 4, 3) := dk_167 0 4 (dk_at dksX0_fallOf_1 20 rfl rfl)
theorem dX0_fallOf_47 : decode cX0_fallOf 47 = .ok (.iconst 0, 1) := dk_3 (dk_at dksX0_fallOf_1 23 rfl rfl)
theorem dX0_fallOf_48 : decode cX0_fallOf 48 = .ok (.iadd, 1) := dk_96 (dk_at dksX0_fallOf_2 0 rfl rfl)
theorem dX0_fallOf_49 : decode cX0_fallOf 49 = .ok (.istore_n 2, 1) := dk_61 (dk_at dksX0_fallOf_2 1 rfl rfl)
theorem dX0_fallOf_50 : decode cX0_fallOf 50 = .ok (.iinc 3 1, 3) := dk_132 3 1 (dk_at dksX0_fallOf_2 2 rfl rfl)
theorem dX0_fallOf_53 : decode cX0_fallOf 53 = .ok (.goto (-49), 3) := dk_167 255 207 (dk_at dksX0_fallOf_2 5 rfl rfl)
theorem dX0_fallOf_56 : decode cX0_fallOf 56 = .ok (.iload_n 2, 1) := dk_28 (dk_at dksX0_fallOf_2 8 rfl rfl)
theorem dX0_fallOf_57 : decode cX0_fallOf 57 = .ok (.ireturn, 1) := dk_172 (dk_at dksX0_fallOf_2 9 rfl rfl)
abbrev cX0_matches : ByteArray := prog_1_method_56_code
def yX0_matches : MethodName := ⟨RX0, "matches", "(I)I"⟩
def dkwX0_matches_4 : List UInt8 := [4, 21, 4, 120, 128, 61, 132, 3, 1, 167, 255, 156, 28, 172]
abbrev dktX0_matches_4 : List UInt8 := dkwX0_matches_4 ++ []
def dkwX0_matches_3 : List UInt8 := [182, 1, 132, 42, 29, 21, 4, 182, 1, 132, 162, 0, 7, 21, 5, 54, 4, 132, 5, 1, 167, 255, 200, 28]
abbrev dktX0_matches_3 : List UInt8 := dkwX0_matches_3 ++ dktX0_matches_4
def dkwX0_matches_2 : List UInt8 := [162, 0, 47, 27, 28, 128, 21, 5, 184, 1, 122, 154, 0, 30, 21, 4, 2, 159, 0, 20, 42, 29, 21, 5]
abbrev dktX0_matches_2 : List UInt8 := dkwX0_matches_2 ++ dktX0_matches_3
def dkwX0_matches_1 : List UInt8 := [154, 0, 6, 167, 0, 75, 2, 54, 4, 3, 54, 5, 21, 5, 42, 180, 0, 10, 180, 1, 72, 182, 0, 109]
abbrev dktX0_matches_1 : List UInt8 := dkwX0_matches_1 ++ dktX0_matches_2
def dkwX0_matches_0 : List UInt8 := [3, 61, 3, 62, 29, 42, 180, 0, 10, 180, 1, 72, 182, 0, 109, 162, 0, 92, 27, 29, 184, 1, 122]
abbrev dktX0_matches_0 : List UInt8 := dkwX0_matches_0 ++ dktX0_matches_1
theorem dksX0_matches_0 : cX0_matches.data.toList.drop 0 = dktX0_matches_0 := by decide +kernel
theorem dksX0_matches_1 : cX0_matches.data.toList.drop 23 = dktX0_matches_1 := dk_seg dksX0_matches_0 23 rfl rfl
theorem dksX0_matches_2 : cX0_matches.data.toList.drop 47 = dktX0_matches_2 := dk_seg dksX0_matches_1 24 rfl rfl
theorem dksX0_matches_3 : cX0_matches.data.toList.drop 71 = dktX0_matches_3 := dk_seg dksX0_matches_2 24 rfl rfl
theorem dksX0_matches_4 : cX0_matches.data.toList.drop 95 = dktX0_matches_4 := dk_seg dksX0_matches_3 24 rfl rfl
theorem dX0_matches_0 : decode cX0_matches 0 = .ok (.iconst 0, 1) := dk_3 (dk_at dksX0_matches_0 0 rfl rfl)
theorem dX0_matches_1 : decode cX0_matches 1 = .ok (.istore_n 2, 1) := dk_61 (dk_at dksX0_matches_0 1 rfl rfl)
theorem dX0_matches_2 : decode cX0_matches 2 = .ok (.iconst 0, 1) := dk_3 (dk_at dksX0_matches_0 2 rfl rfl)
theorem dX0_matches_3 : decode cX0_matches 3 = .ok (.istore_n 3, 1) := dk_62 (dk_at dksX0_matches_0 3 rfl rfl)
theorem dX0_matches_4 : decode cX0_matches 4 = .ok (.iload_n 3, 1) := dk_29 (dk_at dksX0_matches_0 4 rfl rfl)
theorem dX0_matches_5 : decode cX0_matches 5 = .ok (.aload_n 0, 1) := dk_42 (dk_at dksX0_matches_0 5 rfl rfl)
theorem dX0_matches_6 : decode cX0_matches 6 = .ok (.getfield 10, 3) := dk_180 0 10 (dk_at dksX0_matches_0 6 rfl rfl)
theorem dX0_matches_9 : decode cX0_matches 9 = .ok (.getfield 328, 3) := dk_180 1 72 (dk_at dksX0_matches_0 9 rfl rfl)
theorem dX0_matches_12 : decode cX0_matches 12 = .ok (.invokevirtual 109, 3) := dk_182 0 109 (dk_at dksX0_matches_0 12 rfl rfl)
theorem dX0_matches_15 : decode cX0_matches 15 = .ok (.if_icmp .ge 92, 3) := dk_162 0 92 (dk_at dksX0_matches_0 15 rfl rfl)
theorem dX0_matches_18 : decode cX0_matches 18 = .ok (.iload_n 1, 1) := dk_27 (dk_at dksX0_matches_0 18 rfl rfl)
theorem dX0_matches_19 : decode cX0_matches 19 = .ok (.iload_n 3, 1) := dk_29 (dk_at dksX0_matches_0 19 rfl rfl)
theorem dX0_matches_20 : decode cX0_matches 20 = .ok (.invokestatic 378, 3) := dk_184 1 122 (dk_at dksX0_matches_0 20 rfl rfl)
theorem dX0_matches_23 : decode cX0_matches 23 = .ok (.ifCond .ne 6, 3) := dk_154 0 6 (dk_at dksX0_matches_1 0 rfl rfl)
theorem dX0_matches_26 : decode cX0_matches 26 = .ok (.goto 75, 3) := dk_167 0 75 (dk_at dksX0_matches_1 3 rfl rfl)
theorem dX0_matches_29 : decode cX0_matches 29 = .ok (.iconst (-1), 1) := dk_2 (dk_at dksX0_matches_1 6 rfl rfl)
theorem dX0_matches_30 : decode cX0_matches 30 = .ok (.istore 4, 2) := dk_54 4 (dk_at dksX0_matches_1 7 rfl rfl)
theorem dX0_matches_32 : decode cX0_matches 32 = .ok (.iconst 0, 1) := dk_3 (dk_at dksX0_matches_1 9 rfl rfl)
theorem dX0_matches_33 : decode cX0_matches 33 = .ok (.istore 5, 2) := dk_54 5 (dk_at dksX0_matches_1 10 rfl rfl)
theorem dX0_matches_35 : decode cX0_matches 35 = .ok (.iload 5, 2) := dk_21 5 (dk_at dksX0_matches_1 12 rfl rfl)
theorem dX0_matches_37 : decode cX0_matches 37 = .ok (.aload_n 0, 1) := dk_42 (dk_at dksX0_matches_1 14 rfl rfl)
theorem dX0_matches_38 : decode cX0_matches 38 = .ok (.getfield 10, 3) := dk_180 0 10 (dk_at dksX0_matches_1 15 rfl rfl)
theorem dX0_matches_41 : decode cX0_matches 41 = .ok (.getfield 328, 3) := dk_180 1 72 (dk_at dksX0_matches_1 18 rfl rfl)
theorem dX0_matches_44 : decode cX0_matches 44 = .ok (.invokevirtual 109, 3) := dk_182 0 109 (dk_at dksX0_matches_1 21 rfl rfl)
theorem dX0_matches_47 : decode cX0_matches 47 = .ok (.if_icmp .ge 47, 3) := dk_162 0 47 (dk_at dksX0_matches_2 0 rfl rfl)
theorem dX0_matches_50 : decode cX0_matches 50 = .ok (.iload_n 1, 1) := dk_27 (dk_at dksX0_matches_2 3 rfl rfl)
theorem dX0_matches_51 : decode cX0_matches 51 = .ok (.iload_n 2, 1) := dk_28 (dk_at dksX0_matches_2 4 rfl rfl)
theorem dX0_matches_52 : decode cX0_matches 52 = .ok (.ior, 1) := dk_128 (dk_at dksX0_matches_2 5 rfl rfl)
theorem dX0_matches_53 : decode cX0_matches 53 = .ok (.iload 5, 2) := dk_21 5 (dk_at dksX0_matches_2 6 rfl rfl)
theorem dX0_matches_55 : decode cX0_matches 55 = .ok (.invokestatic 378, 3) := dk_184 1 122 (dk_at dksX0_matches_2 8 rfl rfl)
theorem dX0_matches_58 : decode cX0_matches 58 = .ok (.ifCond .ne 30, 3) := dk_154 0 30 (dk_at dksX0_matches_2 11 rfl rfl)
theorem dX0_matches_61 : decode cX0_matches 61 = .ok (.iload 4, 2) := dk_21 4 (dk_at dksX0_matches_2 14 rfl rfl)
theorem dX0_matches_63 : decode cX0_matches 63 = .ok (.iconst (-1), 1) := dk_2 (dk_at dksX0_matches_2 16 rfl rfl)
theorem dX0_matches_64 : decode cX0_matches 64 = .ok (.if_icmp .eq 20, 3) := dk_159 0 20 (dk_at dksX0_matches_2 17 rfl rfl)
theorem dX0_matches_67 : decode cX0_matches 67 = .ok (.aload_n 0, 1) := dk_42 (dk_at dksX0_matches_2 20 rfl rfl)
theorem dX0_matches_68 : decode cX0_matches 68 = .ok (.iload_n 3, 1) := dk_29 (dk_at dksX0_matches_2 21 rfl rfl)
theorem dX0_matches_69 : decode cX0_matches 69 = .ok (.iload 5, 2) := dk_21 5 (dk_at dksX0_matches_2 22 rfl rfl)
theorem dX0_matches_71 : decode cX0_matches 71 = .ok (.invokevirtual 388, 3) := dk_182 1 132 (dk_at dksX0_matches_3 0 rfl rfl)
theorem dX0_matches_74 : decode cX0_matches 74 = .ok (.aload_n 0, 1) := dk_42 (dk_at dksX0_matches_3 3 rfl rfl)
theorem dX0_matches_75 : decode cX0_matches 75 = .ok (.iload_n 3, 1) := dk_29 (dk_at dksX0_matches_3 4 rfl rfl)
theorem dX0_matches_76 : decode cX0_matches 76 = .ok (.iload 4, 2) := dk_21 4 (dk_at dksX0_matches_3 5 rfl rfl)
theorem dX0_matches_78 : decode cX0_matches 78 = .ok (.invokevirtual 388, 3) := dk_182 1 132 (dk_at dksX0_matches_3 7 rfl rfl)
theorem dX0_matches_81 : decode cX0_matches 81 = .ok (.if_icmp .ge 7, 3) := dk_162 0 7 (dk_at dksX0_matches_3 10 rfl rfl)
theorem dX0_matches_84 : decode cX0_matches 84 = .ok (.iload 5, 2) := dk_21 5 (dk_at dksX0_matches_3 13 rfl rfl)
theorem dX0_matches_86 : decode cX0_matches 86 = .ok (.istore 4, 2) := dk_54 4 (dk_at dksX0_matches_3 15 rfl rfl)
theorem dX0_matches_88 : decode cX0_matches 88 = .ok (.iinc 5 1, 3) := dk_132 5 1 (dk_at dksX0_matches_3 17 rfl rfl)
theorem dX0_matches_91 : decode cX0_matches 91 = .ok (.goto (-56), 3) := dk_167 255 200 (dk_at dksX0_matches_3 20 rfl rfl)
theorem dX0_matches_94 : decode cX0_matches 94 = .ok (.iload_n 2, 1) := dk_28 (dk_at dksX0_matches_3 23 rfl rfl)
theorem dX0_matches_95 : decode cX0_matches 95 = .ok (.iconst 1, 1) := dk_4 (dk_at dksX0_matches_4 0 rfl rfl)
theorem dX0_matches_96 : decode cX0_matches 96 = .ok (.iload 4, 2) := dk_21 4 (dk_at dksX0_matches_4 1 rfl rfl)
theorem dX0_matches_98 : decode cX0_matches 98 = .ok (.ishl, 1) := dk_120 (dk_at dksX0_matches_4 3 rfl rfl)
theorem dX0_matches_99 : decode cX0_matches 99 = .ok (.ior, 1) := dk_128 (dk_at dksX0_matches_4 4 rfl rfl)
theorem dX0_matches_100 : decode cX0_matches 100 = .ok (.istore_n 2, 1) := dk_61 (dk_at dksX0_matches_4 5 rfl rfl)
theorem dX0_matches_101 : decode cX0_matches 101 = .ok (.iinc 3 1, 3) := dk_132 3 1 (dk_at dksX0_matches_4 6 rfl rfl)
theorem dX0_matches_104 : decode cX0_matches 104 = .ok (.goto (-100), 3) := dk_167 255 156 (dk_at dksX0_matches_4 9 rfl rfl)
theorem dX0_matches_107 : decode cX0_matches 107 = .ok (.iload_n 2, 1) := dk_28 (dk_at dksX0_matches_4 12 rfl rfl)
theorem dX0_matches_108 : decode cX0_matches 108 = .ok (.ireturn, 1) := dk_172 (dk_at dksX0_matches_4 13 rfl rfl)
abbrev cX0_apart : ByteArray := prog_1_method_55_code
def yX0_apart : MethodName := ⟨RX0, "apart", "(II)I"⟩
def dkwX0_apart_1 : List UInt8 := [28, 182, 0, 133, 192, 1, 77, 182, 1, 103, 100, 184, 1, 129, 172]
abbrev dktX0_apart_1 : List UInt8 := dkwX0_apart_1 ++ []
def dkwX0_apart_0 : List UInt8 := [42, 180, 0, 10, 180, 1, 72, 27, 182, 0, 133, 192, 1, 77, 182, 1, 103, 42, 180, 0, 10, 180, 1, 72]
abbrev dktX0_apart_0 : List UInt8 := dkwX0_apart_0 ++ dktX0_apart_1
theorem dksX0_apart_0 : cX0_apart.data.toList.drop 0 = dktX0_apart_0 := by decide +kernel
theorem dksX0_apart_1 : cX0_apart.data.toList.drop 24 = dktX0_apart_1 := dk_seg dksX0_apart_0 24 rfl rfl
theorem dX0_apart_0 : decode cX0_apart 0 = .ok (.aload_n 0, 1) := dk_42 (dk_at dksX0_apart_0 0 rfl rfl)
theorem dX0_apart_1 : decode cX0_apart 1 = .ok (.getfield 10, 3) := dk_180 0 10 (dk_at dksX0_apart_0 1 rfl rfl)
theorem dX0_apart_4 : decode cX0_apart 4 = .ok (.getfield 328, 3) := dk_180 1 72 (dk_at dksX0_apart_0 4 rfl rfl)
theorem dX0_apart_7 : decode cX0_apart 7 = .ok (.iload_n 1, 1) := dk_27 (dk_at dksX0_apart_0 7 rfl rfl)
theorem dX0_apart_8 : decode cX0_apart 8 = .ok (.invokevirtual 133, 3) := dk_182 0 133 (dk_at dksX0_apart_0 8 rfl rfl)
theorem dX0_apart_11 : decode cX0_apart 11 = .ok (.checkcast 333, 3) := dk_192 1 77 (dk_at dksX0_apart_0 11 rfl rfl)
theorem dX0_apart_14 : decode cX0_apart 14 = .ok (.invokevirtual 359, 3) := dk_182 1 103 (dk_at dksX0_apart_0 14 rfl rfl)
theorem dX0_apart_17 : decode cX0_apart 17 = .ok (.aload_n 0, 1) := dk_42 (dk_at dksX0_apart_0 17 rfl rfl)
theorem dX0_apart_18 : decode cX0_apart 18 = .ok (.getfield 10, 3) := dk_180 0 10 (dk_at dksX0_apart_0 18 rfl rfl)
theorem dX0_apart_21 : decode cX0_apart 21 = .ok (.getfield 328, 3) := dk_180 1 72 (dk_at dksX0_apart_0 21 rfl rfl)
theorem dX0_apart_24 : decode cX0_apart 24 = .ok (.iload_n 2, 1) := dk_28 (dk_at dksX0_apart_1 0 rfl rfl)
theorem dX0_apart_25 : decode cX0_apart 25 = .ok (.invokevirtual 133, 3) := dk_182 0 133 (dk_at dksX0_apart_1 1 rfl rfl)
theorem dX0_apart_28 : decode cX0_apart 28 = .ok (.checkcast 333, 3) := dk_192 1 77 (dk_at dksX0_apart_1 4 rfl rfl)
theorem dX0_apart_31 : decode cX0_apart 31 = .ok (.invokevirtual 359, 3) := dk_182 1 103 (dk_at dksX0_apart_1 7 rfl rfl)
theorem dX0_apart_34 : decode cX0_apart 34 = .ok (.isub, 1) := dk_100 (dk_at dksX0_apart_1 10 rfl rfl)
theorem dX0_apart_35 : decode cX0_apart 35 = .ok (.invokestatic 385, 3) := dk_184 1 129 (dk_at dksX0_apart_1 11 rfl rfl)
theorem dX0_apart_38 : decode cX0_apart 38 = .ok (.ireturn, 1) := dk_172 (dk_at dksX0_apart_1 14 rfl rfl)
abbrev cX0_ranked : ByteArray := prog_1_method_59_code
def yX0_ranked : MethodName := ⟨RX0, "ranked", "(I)I"⟩
def dkwX0_ranked_3 : List UInt8 := [28, 172, 132, 2, 1, 167, 255, 182, 2, 172]
abbrev dktX0_ranked_3 : List UInt8 := dkwX0_ranked_3 ++ []
def dkwX0_ranked_2 : List UInt8 := [182, 1, 147, 153, 0, 7, 4, 167, 0, 4, 3, 96, 62, 132, 4, 1, 167, 255, 214, 29, 27, 160, 0, 5]
abbrev dktX0_ranked_2 : List UInt8 := dkwX0_ranked_2 ++ dktX0_ranked_3
def dkwX0_ranked_1 : List UInt8 := [180, 0, 10, 180, 1, 72, 182, 0, 109, 162, 0, 33, 29, 21, 4, 28, 159, 0, 17, 42, 21, 4, 28]
abbrev dktX0_ranked_1 : List UInt8 := dkwX0_ranked_1 ++ dktX0_ranked_2
def dkwX0_ranked_0 : List UInt8 := [3, 61, 28, 42, 180, 0, 10, 180, 1, 72, 182, 0, 109, 162, 0, 66, 3, 62, 3, 54, 4, 21, 4, 42]
abbrev dktX0_ranked_0 : List UInt8 := dkwX0_ranked_0 ++ dktX0_ranked_1
theorem dksX0_ranked_0 : cX0_ranked.data.toList.drop 0 = dktX0_ranked_0 := by decide +kernel
theorem dksX0_ranked_1 : cX0_ranked.data.toList.drop 24 = dktX0_ranked_1 := dk_seg dksX0_ranked_0 24 rfl rfl
theorem dksX0_ranked_2 : cX0_ranked.data.toList.drop 47 = dktX0_ranked_2 := dk_seg dksX0_ranked_1 23 rfl rfl
theorem dksX0_ranked_3 : cX0_ranked.data.toList.drop 71 = dktX0_ranked_3 := dk_seg dksX0_ranked_2 24 rfl rfl
theorem dX0_ranked_0 : decode cX0_ranked 0 = .ok (.iconst 0, 1) := dk_3 (dk_at dksX0_ranked_0 0 rfl rfl)
theorem dX0_ranked_1 : decode cX0_ranked 1 = .ok (.istore_n 2, 1) := dk_61 (dk_at dksX0_ranked_0 1 rfl rfl)
theorem dX0_ranked_2 : decode cX0_ranked 2 = .ok (.iload_n 2, 1) := dk_28 (dk_at dksX0_ranked_0 2 rfl rfl)
theorem dX0_ranked_3 : decode cX0_ranked 3 = .ok (.aload_n 0, 1) := dk_42 (dk_at dksX0_ranked_0 3 rfl rfl)
theorem dX0_ranked_4 : decode cX0_ranked 4 = .ok (.getfield 10, 3) := dk_180 0 10 (dk_at dksX0_ranked_0 4 rfl rfl)
theorem dX0_ranked_7 : decode cX0_ranked 7 = .ok (.getfield 328, 3) := dk_180 1 72 (dk_at dksX0_ranked_0 7 rfl rfl)
theorem dX0_ranked_10 : decode cX0_ranked 10 = .ok (.invokevirtual 109, 3) := dk_182 0 109 (dk_at dksX0_ranked_0 10 rfl rfl)
theorem dX0_ranked_13 : decode cX0_ranked 13 = .ok (.if_icmp .ge 66, 3) := dk_162 0 66 (dk_at dksX0_ranked_0 13 rfl rfl)
theorem dX0_ranked_16 : decode cX0_ranked 16 = .ok (.iconst 0, 1) := dk_3 (dk_at dksX0_ranked_0 16 rfl rfl)
theorem dX0_ranked_17 : decode cX0_ranked 17 = .ok (.istore_n 3, 1) := dk_62 (dk_at dksX0_ranked_0 17 rfl rfl)
theorem dX0_ranked_18 : decode cX0_ranked 18 = .ok (.iconst 0, 1) := dk_3 (dk_at dksX0_ranked_0 18 rfl rfl)
theorem dX0_ranked_19 : decode cX0_ranked 19 = .ok (.istore 4, 2) := dk_54 4 (dk_at dksX0_ranked_0 19 rfl rfl)
theorem dX0_ranked_21 : decode cX0_ranked 21 = .ok (.iload 4, 2) := dk_21 4 (dk_at dksX0_ranked_0 21 rfl rfl)
theorem dX0_ranked_23 : decode cX0_ranked 23 = .ok (.aload_n 0, 1) := dk_42 (dk_at dksX0_ranked_0 23 rfl rfl)
theorem dX0_ranked_24 : decode cX0_ranked 24 = .ok (.getfield 10, 3) := dk_180 0 10 (dk_at dksX0_ranked_1 0 rfl rfl)
theorem dX0_ranked_27 : decode cX0_ranked 27 = .ok (.getfield 328, 3) := dk_180 1 72 (dk_at dksX0_ranked_1 3 rfl rfl)
theorem dX0_ranked_30 : decode cX0_ranked 30 = .ok (.invokevirtual 109, 3) := dk_182 0 109 (dk_at dksX0_ranked_1 6 rfl rfl)
theorem dX0_ranked_33 : decode cX0_ranked 33 = .ok (.if_icmp .ge 33, 3) := dk_162 0 33 (dk_at dksX0_ranked_1 9 rfl rfl)
theorem dX0_ranked_36 : decode cX0_ranked 36 = .ok (.iload_n 3, 1) := dk_29 (dk_at dksX0_ranked_1 12 rfl rfl)
theorem dX0_ranked_37 : decode cX0_ranked 37 = .ok (.iload 4, 2) := dk_21 4 (dk_at dksX0_ranked_1 13 rfl rfl)
theorem dX0_ranked_39 : decode cX0_ranked 39 = .ok (.iload_n 2, 1) := dk_28 (dk_at dksX0_ranked_1 15 rfl rfl)
theorem dX0_ranked_40 : decode cX0_ranked 40 = .ok (.if_icmp .eq 17, 3) := dk_159 0 17 (dk_at dksX0_ranked_1 16 rfl rfl)
theorem dX0_ranked_43 : decode cX0_ranked 43 = .ok (.aload_n 0, 1) := dk_42 (dk_at dksX0_ranked_1 19 rfl rfl)
theorem dX0_ranked_44 : decode cX0_ranked 44 = .ok (.iload 4, 2) := dk_21 4 (dk_at dksX0_ranked_1 20 rfl rfl)
theorem dX0_ranked_46 : decode cX0_ranked 46 = .ok (.iload_n 2, 1) := dk_28 (dk_at dksX0_ranked_1 22 rfl rfl)
theorem dX0_ranked_47 : decode cX0_ranked 47 = .ok (.invokevirtual 403, 3) := dk_182 1 147 (dk_at dksX0_ranked_2 0 rfl rfl)
theorem dX0_ranked_50 : decode cX0_ranked 50 = .ok (.ifCond .eq 7, 3) := dk_153 0 7 (dk_at dksX0_ranked_2 3 rfl rfl)
theorem dX0_ranked_53 : decode cX0_ranked 53 = .ok (.iconst 1, 1) := dk_4 (dk_at dksX0_ranked_2 6 rfl rfl)
theorem dX0_ranked_54 : decode cX0_ranked 54 = .ok (.goto 4, 3) := dk_167 0 4 (dk_at dksX0_ranked_2 7 rfl rfl)
theorem dX0_ranked_57 : decode cX0_ranked 57 = .ok (.iconst 0, 1) := dk_3 (dk_at dksX0_ranked_2 10 rfl rfl)
theorem dX0_ranked_58 : decode cX0_ranked 58 = .ok (.iadd, 1) := dk_96 (dk_at dksX0_ranked_2 11 rfl rfl)
theorem dX0_ranked_59 : decode cX0_ranked 59 = .ok (.istore_n 3, 1) := dk_62 (dk_at dksX0_ranked_2 12 rfl rfl)
theorem dX0_ranked_60 : decode cX0_ranked 60 = .ok (.iinc 4 1, 3) := dk_132 4 1 (dk_at dksX0_ranked_2 13 rfl rfl)
theorem dX0_ranked_63 : decode cX0_ranked 63 = .ok (.goto (-42), 3) := dk_167 255 214 (dk_at dksX0_ranked_2 16 rfl rfl)
theorem dX0_ranked_66 : decode cX0_ranked 66 = .ok (.iload_n 3, 1) := dk_29 (dk_at dksX0_ranked_2 19 rfl rfl)
theorem dX0_ranked_67 : decode cX0_ranked 67 = .ok (.iload_n 1, 1) := dk_27 (dk_at dksX0_ranked_2 20 rfl rfl)
theorem dX0_ranked_68 : decode cX0_ranked 68 = .ok (.if_icmp .ne 5, 3) := dk_160 0 5 (dk_at dksX0_ranked_2 21 rfl rfl)
theorem dX0_ranked_71 : decode cX0_ranked 71 = .ok (.iload_n 2, 1) := dk_28 (dk_at dksX0_ranked_3 0 rfl rfl)
theorem dX0_ranked_72 : decode cX0_ranked 72 = .ok (.ireturn, 1) := dk_172 (dk_at dksX0_ranked_3 1 rfl rfl)
theorem dX0_ranked_73 : decode cX0_ranked 73 = .ok (.iinc 2 1, 3) := dk_132 2 1 (dk_at dksX0_ranked_3 2 rfl rfl)
theorem dX0_ranked_76 : decode cX0_ranked 76 = .ok (.goto (-74), 3) := dk_167 255 182 (dk_at dksX0_ranked_3 5 rfl rfl)
theorem dX0_ranked_79 : decode cX0_ranked 79 = .ok (.iconst (-1), 1) := dk_2 (dk_at dksX0_ranked_3 8 rfl rfl)
theorem dX0_ranked_80 : decode cX0_ranked 80 = .ok (.ireturn, 1) := dk_172 (dk_at dksX0_ranked_3 9 rfl rfl)
abbrev cX0_isWorse : ByteArray := prog_1_method_58_code
def yX0_isWorse : MethodName := ⟨RX0, "isWorse", "(II)Z"⟩
def dkwX0_isWorse_4 : List UInt8 := [3, 172]
abbrev dktX0_isWorse_4 : List UInt8 := dkwX0_isWorse_4 ++ []
def dkwX0_isWorse_3 : List UInt8 := [21, 5, 21, 6, 164, 0, 7, 4, 167, 0, 17, 3, 167, 0, 13, 27, 28, 162, 0, 7, 4, 167, 0, 4]
abbrev dktX0_isWorse_3 : List UInt8 := dkwX0_isWorse_3 ++ dktX0_isWorse_4
def dkwX0_isWorse_2 : List UInt8 := [25, 4, 182, 1, 103, 4, 45, 182, 1, 105, 184, 1, 145, 104, 54, 6, 21, 5, 21, 6, 159, 0, 18]
abbrev dktX0_isWorse_2 : List UInt8 := dkwX0_isWorse_2 ++ dktX0_isWorse_3
def dkwX0_isWorse_1 : List UInt8 := [182, 0, 133, 192, 1, 77, 58, 4, 45, 182, 1, 103, 4, 25, 4, 182, 1, 105, 184, 1, 145, 104, 54, 5]
abbrev dktX0_isWorse_1 : List UInt8 := dkwX0_isWorse_1 ++ dktX0_isWorse_2
def dkwX0_isWorse_0 : List UInt8 := [42, 180, 0, 10, 180, 1, 72, 27, 182, 0, 133, 192, 1, 77, 78, 42, 180, 0, 10, 180, 1, 72, 28]
abbrev dktX0_isWorse_0 : List UInt8 := dkwX0_isWorse_0 ++ dktX0_isWorse_1
theorem dksX0_isWorse_0 : cX0_isWorse.data.toList.drop 0 = dktX0_isWorse_0 := by decide +kernel
theorem dksX0_isWorse_1 : cX0_isWorse.data.toList.drop 23 = dktX0_isWorse_1 := dk_seg dksX0_isWorse_0 23 rfl rfl
theorem dksX0_isWorse_2 : cX0_isWorse.data.toList.drop 47 = dktX0_isWorse_2 := dk_seg dksX0_isWorse_1 24 rfl rfl
theorem dksX0_isWorse_3 : cX0_isWorse.data.toList.drop 70 = dktX0_isWorse_3 := dk_seg dksX0_isWorse_2 23 rfl rfl
theorem dksX0_isWorse_4 : cX0_isWorse.data.toList.drop 94 = dktX0_isWorse_4 := dk_seg dksX0_isWorse_3 24 rfl rfl
theorem dX0_isWorse_0 : decode cX0_isWorse 0 = .ok (.aload_n 0, 1) := dk_42 (dk_at dksX0_isWorse_0 0 rfl rfl)
theorem dX0_isWorse_1 : decode cX0_isWorse 1 = .ok (.getfield 10, 3) := dk_180 0 10 (dk_at dksX0_isWorse_0 1 rfl rfl)
theorem dX0_isWorse_4 : decode cX0_isWorse 4 = .ok (.getfield 328, 3) := dk_180 1 72 (dk_at dksX0_isWorse_0 4 rfl rfl)
theorem dX0_isWorse_7 : decode cX0_isWorse 7 = .ok (.iload_n 1, 1) := dk_27 (dk_at dksX0_isWorse_0 7 rfl rfl)
theorem dX0_isWorse_8 : decode cX0_isWorse 8 = .ok (.invokevirtual 133, 3) := dk_182 0 133 (dk_at dksX0_isWorse_0 8 rfl rfl)
theorem dX0_isWorse_11 : decode cX0_isWorse 11 = .ok (.checkcast 333, 3) := dk_192 1 77 (dk_at dksX0_isWorse_0 11 rfl rfl)
theorem dX0_isWorse_14 : decode cX0_isWorse 14 = .ok (.astore_n 3, 1) := dk_78 (dk_at dksX0_isWorse_0 14 rfl rfl)
theorem dX0_isWorse_15 : decode cX0_isWorse 15 = .ok (.aload_n 0, 1) := dk_42 (dk_at dksX0_isWorse_0 15 rfl rfl)
theorem dX0_isWorse_16 : decode cX0_isWorse 16 = .ok (.getfield 10, 3) := dk_180 0 10 (dk_at dksX0_isWorse_0 16 rfl rfl)
theorem dX0_isWorse_19 : decode cX0_isWorse 19 = .ok (.getfield 328, 3) := dk_180 1 72 (dk_at dksX0_isWorse_0 19 rfl rfl)
theorem dX0_isWorse_22 : decode cX0_isWorse 22 = .ok (.iload_n 2, 1) := dk_28 (dk_at dksX0_isWorse_0 22 rfl rfl)
theorem dX0_isWorse_23 : decode cX0_isWorse 23 = .ok (.invokevirtual 133, 3) := dk_182 0 133 (dk_at dksX0_isWorse_1 0 rfl rfl)
theorem dX0_isWorse_26 : decode cX0_isWorse 26 = .ok (.checkcast 333, 3) := dk_192 1 77 (dk_at dksX0_isWorse_1 3 rfl rfl)
theorem dX0_isWorse_29 : decode cX0_isWorse 29 = .ok (.astore 4, 2) := dk_58 4 (dk_at dksX0_isWorse_1 6 rfl rfl)
theorem dX0_isWorse_31 : decode cX0_isWorse 31 = .ok (.aload_n 3, 1) := dk_45 (dk_at dksX0_isWorse_1 8 rfl rfl)
theorem dX0_isWorse_32 : decode cX0_isWorse 32 = .ok (.invokevirtual 359, 3) := dk_182 1 103 (dk_at dksX0_isWorse_1 9 rfl rfl)
theorem dX0_isWorse_35 : decode cX0_isWorse 35 = .ok (.iconst 1, 1) := dk_4 (dk_at dksX0_isWorse_1 12 rfl rfl)
theorem dX0_isWorse_36 : decode cX0_isWorse 36 = .ok (.aload 4, 2) := dk_25 4 (dk_at dksX0_isWorse_1 13 rfl rfl)
theorem dX0_isWorse_38 : decode cX0_isWorse 38 = .ok (.invokevirtual 361, 3) := dk_182 1 105 (dk_at dksX0_isWorse_1 15 rfl rfl)
theorem dX0_isWorse_41 : decode cX0_isWorse 41 = .ok (.invokestatic 401, 3) := dk_184 1 145 (dk_at dksX0_isWorse_1 18 rfl rfl)
theorem dX0_isWorse_44 : decode cX0_isWorse 44 = .ok (.imul, 1) := dk_104 (dk_at dksX0_isWorse_1 21 rfl rfl)
theorem dX0_isWorse_45 : decode cX0_isWorse 45 = .ok (.istore 5, 2) := dk_54 5 (dk_at dksX0_isWorse_1 22 rfl rfl)
theorem dX0_isWorse_47 : decode cX0_isWorse 47 = .ok (.aload 4, 2) := dk_25 4 (dk_at dksX0_isWorse_2 0 rfl rfl)
theorem dX0_isWorse_49 : decode cX0_isWorse 49 = .ok (.invokevirtual 359, 3) := dk_182 1 103 (dk_at dksX0_isWorse_2 2 rfl rfl)
theorem dX0_isWorse_52 : decode cX0_isWorse 52 = .ok (.iconst 1, 1) := dk_4 (dk_at dksX0_isWorse_2 5 rfl rfl)
theorem dX0_isWorse_53 : decode cX0_isWorse 53 = .ok (.aload_n 3, 1) := dk_45 (dk_at dksX0_isWorse_2 6 rfl rfl)
theorem dX0_isWorse_54 : decode cX0_isWorse 54 = .ok (.invokevirtual 361, 3) := dk_182 1 105 (dk_at dksX0_isWorse_2 7 rfl rfl)
theorem dX0_isWorse_57 : decode cX0_isWorse 57 = .ok (.invokestatic 401, 3) := dk_184 1 145 (dk_at dksX0_isWorse_2 10 rfl rfl)
theorem dX0_isWorse_60 : decode cX0_isWorse 60 = .ok (.imul, 1) := dk_104 (dk_at dksX0_isWorse_2 13 rfl rfl)
theorem dX0_isWorse_61 : decode cX0_isWorse 61 = .ok (.istore 6, 2) := dk_54 6 (dk_at dksX0_isWorse_2 14 rfl rfl)
theorem dX0_isWorse_63 : decode cX0_isWorse 63 = .ok (.iload 5, 2) := dk_21 5 (dk_at dksX0_isWorse_2 16 rfl rfl)
theorem dX0_isWorse_65 : decode cX0_isWorse 65 = .ok (.iload 6, 2) := dk_21 6 (dk_at dksX0_isWorse_2 18 rfl rfl)
theorem dX0_isWorse_67 : decode cX0_isWorse 67 = .ok (.if_icmp .eq 18, 3) := dk_159 0 18 (dk_at dksX0_isWorse_2 20 rfl rfl)
theorem dX0_isWorse_70 : decode cX0_isWorse 70 = .ok (.iload 5, 2) := dk_21 5 (dk_at dksX0_isWorse_3 0 rfl rfl)
theorem dX0_isWorse_72 : decode cX0_isWorse 72 = .ok (.iload 6, 2) := dk_21 6 (dk_at dksX0_isWorse_3 2 rfl rfl)
theorem dX0_isWorse_74 : decode cX0_isWorse 74 = .ok (.if_icmp .le 7, 3) := dk_164 0 7 (dk_at dksX0_isWorse_3 4 rfl rfl)
theorem dX0_isWorse_77 : decode cX0_isWorse 77 = .ok (.iconst 1, 1) := dk_4 (dk_at dksX0_isWorse_3 7 rfl rfl)
theorem dX0_isWorse_78 : decode cX0_isWorse 78 = .ok (.goto 17, 3) := dk_167 0 17 (dk_at dksX0_isWorse_3 8 rfl rfl)
theorem dX0_isWorse_81 : decode cX0_isWorse 81 = .ok (.iconst 0, 1) := dk_3 (dk_at dksX0_isWorse_3 11 rfl rfl)
theorem dX0_isWorse_82 : decode cX0_isWorse 82 = .ok (.goto 13, 3) := dk_167 0 13 (dk_at dksX0_isWorse_3 12 rfl rfl)
theorem dX0_isWorse_85 : decode cX0_isWorse 85 = .ok (.iload_n 1, 1) := dk_27 (dk_at dksX0_isWorse_3 15 rfl rfl)
theorem dX0_isWorse_86 : decode cX0_isWorse 86 = .ok (.iload_n 2, 1) := dk_28 (dk_at dksX0_isWorse_3 16 rfl rfl)
theorem dX0_isWorse_87 : decode cX0_isWorse 87 = .ok (.if_icmp .ge 7, 3) := dk_162 0 7 (dk_at dksX0_isWorse_3 17 rfl rfl)
theorem dX0_isWorse_90 : decode cX0_isWorse 90 = .ok (.iconst 1, 1) := dk_4 (dk_at dksX0_isWorse_3 20 rfl rfl)
theorem dX0_isWorse_91 : decode cX0_isWorse 91 = .ok (.goto 4, 3) := dk_167 0 4 (dk_at dksX0_isWorse_3 21 rfl rfl)
theorem dX0_isWorse_94 : decode cX0_isWorse 94 = .ok (.iconst 0, 1) := dk_3 (dk_at dksX0_isWorse_4 0 rfl rfl)
theorem dX0_isWorse_95 : decode cX0_isWorse 95 = .ok (.ireturn, 1) := dk_172 (dk_at dksX0_isWorse_4 1 rfl rfl)
abbrev cX0_measure : ByteArray := prog_1_method_60_code
def yX0_measure : MethodName := ⟨RX0, "measure", "(III)I"⟩
def dkwX0_measure_3 : List UInt8 := [3, 172]
abbrev dktX0_measure_3 : List UInt8 := dkwX0_measure_3 ++ []
def dkwX0_measure_2 : List UInt8 := [182, 0, 73, 172, 42, 180, 0, 10, 180, 1, 150, 27, 28, 79, 42, 180, 0, 10, 180, 1, 153, 27, 29, 79]
abbrev dktX0_measure_2 : List UInt8 := dkwX0_measure_2 ++ dktX0_measure_3
def dkwX0_measure_1 : List UInt8 := [20, 0, 247, 184, 0, 81, 153, 0, 15, 29, 133, 9, 20, 1, 7, 184, 0, 81, 154, 0, 10, 42, 16, 253]
abbrev dktX0_measure_1 : List UInt8 := dkwX0_measure_1 ++ dktX0_measure_2
def dkwX0_measure_0 : List UInt8 := [27, 133, 9, 20, 0, 131, 184, 0, 81, 154, 0, 10, 42, 16, 254, 182, 0, 73, 172, 28, 133, 10]
abbrev dktX0_measure_0 : List UInt8 := dkwX0_measure_0 ++ dktX0_measure_1
theorem dksX0_measure_0 : cX0_measure.data.toList.drop 0 = dktX0_measure_0 := by decide +kernel
theorem dksX0_measure_1 : cX0_measure.data.toList.drop 22 = dktX0_measure_1 := dk_seg dksX0_measure_0 22 rfl rfl
theorem dksX0_measure_2 : cX0_measure.data.toList.drop 46 = dktX0_measure_2 := dk_seg dksX0_measure_1 24 rfl rfl
theorem dksX0_measure_3 : cX0_measure.data.toList.drop 70 = dktX0_measure_3 := dk_seg dksX0_measure_2 24 rfl rfl
theorem dX0_measure_0 : decode cX0_measure 0 = .ok (.iload_n 1, 1) := dk_27 (dk_at dksX0_measure_0 0 rfl rfl)
theorem dX0_measure_1 : decode cX0_measure 1 = .ok (.i2l, 1) := dk_133 (dk_at dksX0_measure_0 1 rfl rfl)
theorem dX0_measure_2 : decode cX0_measure 2 = .ok (.lconst 0, 1) := dk_9 (dk_at dksX0_measure_0 2 rfl rfl)
theorem dX0_measure_3 : decode cX0_measure 3 = .ok (.ldc2_w 131, 3) := dk_20 0 131 (dk_at dksX0_measure_0 3 rfl rfl)
theorem dX0_measure_6 : decode cX0_measure 6 = .ok (.invokestatic 81, 3) := dk_184 0 81 (dk_at dksX0_measure_0 6 rfl rfl)
theorem dX0_measure_9 : decode cX0_measure 9 = .ok (.ifCond .ne 10, 3) := dk_154 0 10 (dk_at dksX0_measure_0 9 rfl rfl)
theorem dX0_measure_12 : decode cX0_measure 12 = .ok (.aload_n 0, 1) := dk_42 (dk_at dksX0_measure_0 12 rfl rfl)
theorem dX0_measure_13 : decode cX0_measure 13 = .ok (.bipush (-2), 2) := dk_16 254 (dk_at dksX0_measure_0 13 rfl rfl)
theorem dX0_measure_15 : decode cX0_measure 15 = .ok (.invokevirtual 73, 3) := dk_182 0 73 (dk_at dksX0_measure_0 15 rfl rfl)
theorem dX0_measure_18 : decode cX0_measure 18 = .ok (.ireturn, 1) := dk_172 (dk_at dksX0_measure_0 18 rfl rfl)
theorem dX0_measure_19 : decode cX0_measure 19 = .ok (.iload_n 2, 1) := dk_28 (dk_at dksX0_measure_0 19 rfl rfl)
theorem dX0_measure_20 : decode cX0_measure 20 = .ok (.i2l, 1) := dk_133 (dk_at dksX0_measure_0 20 rfl rfl)
theorem dX0_measure_21 : decode cX0_measure 21 = .ok (.lconst 1, 1) := dk_10 (dk_at dksX0_measure_0 21 rfl rfl)
theorem dX0_measure_22 : decode cX0_measure 22 = .ok (.ldc2_w 247, 3) := dk_20 0 247 (dk_at dksX0_measure_1 0 rfl rfl)
theorem dX0_measure_25 : decode cX0_measure 25 = .ok (.invokestatic 81, 3) := dk_184 0 81 (dk_at dksX0_measure_1 3 rfl rfl)
theorem dX0_measure_28 : decode cX0_measure 28 = .ok (.ifCond .eq 15, 3) := dk_153 0 15 (dk_at dksX0_measure_1 6 rfl rfl)
theorem dX0_measure_31 : decode cX0_measure 31 = .ok (.iload_n 3, 1) := dk_29 (dk_at dksX0_measure_1 9 rfl rfl)
theorem dX0_measure_32 : decode cX0_measure 32 = .ok (.i2l, 1) := dk_133 (dk_at dksX0_measure_1 10 rfl rfl)
theorem dX0_measure_33 : decode cX0_measure 33 = .ok (.lconst 0, 1) := dk_9 (dk_at dksX0_measure_1 11 rfl rfl)
theorem dX0_measure_34 : decode cX0_measure 34 = .ok (.ldc2_w 263, 3) := dk_20 1 7 (dk_at dksX0_measure_1 12 rfl rfl)
theorem dX0_measure_37 : decode cX0_measure 37 = .ok (.invokestatic 81, 3) := dk_184 0 81 (dk_at dksX0_measure_1 15 rfl rfl)
theorem dX0_measure_40 : decode cX0_measure 40 = .ok (.ifCond .ne 10, 3) := dk_154 0 10 (dk_at dksX0_measure_1 18 rfl rfl)
theorem dX0_measure_43 : decode cX0_measure 43 = .ok (.aload_n 0, 1) := dk_42 (dk_at dksX0_measure_1 21 rfl rfl)
theorem dX0_measure_44 : decode cX0_measure 44 = .ok (.bipush (-3), 2) := dk_16 253 (dk_at dksX0_measure_1 22 rfl rfl)
theorem dX0_measure_46 : decode cX0_measure 46 = .ok (.invokevirtual 73, 3) := dk_182 0 73 (dk_at dksX0_measure_2 0 rfl rfl)
theorem dX0_measure_49 : decode cX0_measure 49 = .ok (.ireturn, 1) := dk_172 (dk_at dksX0_measure_2 3 rfl rfl)
theorem dX0_measure_50 : decode cX0_measure 50 = .ok (.aload_n 0, 1) := dk_42 (dk_at dksX0_measure_2 4 rfl rfl)
theorem dX0_measure_51 : decode cX0_measure 51 = .ok (.getfield 10, 3) := dk_180 0 10 (dk_at dksX0_measure_2 5 rfl rfl)
theorem dX0_measure_54 : decode cX0_measure 54 = .ok (.getfield 406, 3) := dk_180 1 150 (dk_at dksX0_measure_2 8 rfl rfl)
theorem dX0_measure_57 : decode cX0_measure 57 = .ok (.iload_n 1, 1) := dk_27 (dk_at dksX0_measure_2 11 rfl rfl)
theorem dX0_measure_58 : decode cX0_measure 58 = .ok (.iload_n 2, 1) := dk_28 (dk_at dksX0_measure_2 12 rfl rfl)
theorem dX0_measure_59 : decode cX0_measure 59 = .ok (.iastore, 1) := dk_79 (dk_at dksX0_measure_2 13 rfl rfl)
theorem dX0_measure_60 : decode cX0_measure 60 = .ok (.aload_n 0, 1) := dk_42 (dk_at dksX0_measure_2 14 rfl rfl)
theorem dX0_measure_61 : decode cX0_measure 61 = .ok (.getfield 10, 3) := dk_180 0 10 (dk_at dksX0_measure_2 15 rfl rfl)
theorem dX0_measure_64 : decode cX0_measure 64 = .ok (.getfield 409, 3) := dk_180 1 153 (dk_at dksX0_measure_2 18 rfl rfl)
theorem dX0_measure_67 : decode cX0_measure 67 = .ok (.iload_n 1, 1) := dk_27 (dk_at dksX0_measure_2 21 rfl rfl)
theorem dX0_measure_68 : decode cX0_measure 68 = .ok (.iload_n 3, 1) := dk_29 (dk_at dksX0_measure_2 22 rfl rfl)
theorem dX0_measure_69 : decode cX0_measure 69 = .ok (.iastore, 1) := dk_79 (dk_at dksX0_measure_2 23 rfl rfl)
theorem dX0_measure_70 : decode cX0_measure 70 = .ok (.iconst 0, 1) := dk_3 (dk_at dksX0_measure_3 0 rfl rfl)
theorem dX0_measure_71 : decode cX0_measure 71 = .ok (.ireturn, 1) := dk_172 (dk_at dksX0_measure_3 1 rfl rfl)
abbrev cX0_spent : ByteArray := prog_1_method_65_code
def yX0_spent : MethodName := ⟨RX0, "spent", "(II)I"⟩
def dkwX0_spent_6 : List UInt8 := [167, 255, 214, 21, 5, 42, 21, 6, 182, 1, 161, 100, 54, 5, 132, 7, 1, 167, 255, 188, 21, 6, 172]
abbrev dktX0_spent_6 : List UInt8 := dkwX0_spent_6 ++ []
def dkwX0_spent_5 : List UInt8 := [182, 1, 164, 42, 180, 0, 57, 17, 3, 232, 21, 7, 104, 21, 5, 96, 47, 148, 153, 0, 9, 132, 6, 1]
abbrev dktX0_spent_5 : List UInt8 := dkwX0_spent_5 ++ dktX0_spent_6
def dkwX0_spent_4 : List UInt8 := [163, 0, 68, 3, 54, 6, 42, 21, 6, 182, 1, 161, 21, 5, 163, 0, 31, 42, 21, 7, 21, 5, 21, 6]
abbrev dktX0_spent_4 : List UInt8 := dkwX0_spent_4 ++ dktX0_spent_5
def dkwX0_spent_3 : List UInt8 := [16, 20, 160, 0, 10, 33, 20, 1, 156, 113, 136, 172, 27, 54, 5, 3, 54, 6, 3, 54, 7, 21, 7, 28]
abbrev dktX0_spent_3 : List UInt8 := dkwX0_spent_3 ++ dktX0_spent_4
def dkwX0_spent_2 : List UInt8 := [27, 182, 1, 172, 42, 180, 0, 57, 27, 47, 66, 28, 2, 160, 0, 10, 33, 20, 1, 156, 109, 136, 172, 28]
abbrev dktX0_spent_2 : List UInt8 := dkwX0_spent_2 ++ dktX0_spent_3
def dkwX0_spent_1 : List UInt8 := [182, 0, 73, 172, 27, 133, 9, 20, 1, 170, 184, 0, 81, 154, 0, 10, 42, 16, 253, 182, 0, 73, 172, 42]
abbrev dktX0_spent_1 : List UInt8 := dkwX0_spent_1 ++ dktX0_spent_2
def dkwX0_spent_0 : List UInt8 := [28, 2, 159, 0, 24, 28, 16, 20, 159, 0, 18, 42, 28, 182, 1, 82, 154, 0, 10, 42, 16, 254]
abbrev dktX0_spent_0 : List UInt8 := dkwX0_spent_0 ++ dktX0_spent_1
theorem dksX0_spent_0 : cX0_spent.data.toList.drop 0 = dktX0_spent_0 := by decide +kernel
theorem dksX0_spent_1 : cX0_spent.data.toList.drop 22 = dktX0_spent_1 := dk_seg dksX0_spent_0 22 rfl rfl
theorem dksX0_spent_2 : cX0_spent.data.toList.drop 46 = dktX0_spent_2 := dk_seg dksX0_spent_1 24 rfl rfl
theorem dksX0_spent_3 : cX0_spent.data.toList.drop 70 = dktX0_spent_3 := dk_seg dksX0_spent_2 24 rfl rfl
theorem dksX0_spent_4 : cX0_spent.data.toList.drop 94 = dktX0_spent_4 := dk_seg dksX0_spent_3 24 rfl rfl
theorem dksX0_spent_5 : cX0_spent.data.toList.drop 118 = dktX0_spent_5 := dk_seg dksX0_spent_4 24 rfl rfl
theorem dksX0_spent_6 : cX0_spent.data.toList.drop 142 = dktX0_spent_6 := dk_seg dksX0_spent_5 24 rfl rfl
theorem dX0_spent_0 : decode cX0_spent 0 = .ok (.iload_n 2, 1) := dk_28 (dk_at dksX0_spent_0 0 rfl rfl)
theorem dX0_spent_1 : decode cX0_spent 1 = .ok (.iconst (-1), 1) := dk_2 (dk_at dksX0_spent_0 1 rfl rfl)
theorem dX0_spent_2 : decode cX0_spent 2 = .ok (.if_icmp .eq 24, 3) := dk_159 0 24 (dk_at dksX0_spent_0 2 rfl rfl)
theorem dX0_spent_5 : decode cX0_spent 5 = .ok (.iload_n 2, 1) := dk_28 (dk_at dksX0_spent_0 5 rfl rfl)
theorem dX0_spent_6 : decode cX0_spent 6 = .ok (.bipush 20, 2) := dk_16 20 (dk_at dksX0_spent_0 6 rfl rfl)
theorem dX0_spent_8 : decode cX0_spent 8 = .ok (.if_icmp .eq 18, 3) := dk_159 0 18 (dk_at dksX0_spent_0 8 rfl rfl)
theorem dX0_spent_11 : decode cX0_spent 11 = .ok (.aload_n 0, 1) := dk_42 (dk_at dksX0_spent_0 11 rfl rfl)
theorem dX0_spent_12 : decode cX0_spent 12 = .ok (.iload_n 2, 1) := dk_28 (dk_at dksX0_spent_0 12 rfl rfl)
theorem dX0_spent_13 : decode cX0_spent 13 = .ok (.invokevirtual 338, 3) := dk_182 1 82 (dk_at dksX0_spent_0 13 rfl rfl)
theorem dX0_spent_16 : decode cX0_spent 16 = .ok (.ifCond .ne 10, 3) := dk_154 0 10 (dk_at dksX0_spent_0 16 rfl rfl)
theorem dX0_spent_19 : decode cX0_spent 19 = .ok (.aload_n 0, 1) := dk_42 (dk_at dksX0_spent_0 19 rfl rfl)
theorem dX0_spent_20 : decode cX0_spent 20 = .ok (.bipush (-2), 2) := dk_16 254 (dk_at dksX0_spent_0 20 rfl rfl)
theorem dX0_spent_22 : decode cX0_spent 22 = .ok (.invokevirtual 73, 3) := dk_182 0 73 (dk_at dksX0_spent_1 0 rfl rfl)
theorem dX0_spent_25 : decode cX0_spent 25 = .ok (.ireturn, 1) := dk_172 (dk_at dksX0_spent_1 3 rfl rfl)
theorem dX0_spent_26 : decode cX0_spent 26 = .ok (.iload_n 1, 1) := dk_27 (dk_at dksX0_spent_1 4 rfl rfl)
theorem dX0_spent_27 : decode cX0_spent 27 = .ok (.i2l, 1) := dk_133 (dk_at dksX0_spent_1 5 rfl rfl)
theorem dX0_spent_28 : decode cX0_spent 28 = .ok (.lconst 0, 1) := dk_9 (dk_at dksX0_spent_1 6 rfl rfl)
theorem dX0_spent_29 : decode cX0_spent 29 = .ok (.ldc2_w 426, 3) := dk_20 1 170 (dk_at dksX0_spent_1 7 rfl rfl)
theorem dX0_spent_32 : decode cX0_spent 32 = .ok (.invokestatic 81, 3) := dk_184 0 81 (dk_at dksX0_spent_1 10 rfl rfl)
theorem dX0_spent_35 : decode cX0_spent 35 = .ok (.ifCond .ne 10, 3) := dk_154 0 10 (dk_at dksX0_spent_1 13 rfl rfl)
theorem dX0_spent_38 : decode cX0_spent 38 = .ok (.aload_n 0, 1) := dk_42 (dk_at dksX0_spent_1 16 rfl rfl)
theorem dX0_spent_39 : decode cX0_spent 39 = .ok (.bipush (-3), 2) := dk_16 253 (dk_at dksX0_spent_1 17 rfl rfl)
theorem dX0_spent_41 : decode cX0_spent 41 = .ok (.invokevirtual 73, 3) := dk_182 0 73 (dk_at dksX0_spent_1 19 rfl rfl)
theorem dX0_spent_44 : decode cX0_spent 44 = .ok (.ireturn, 1) := dk_172 (dk_at dksX0_spent_1 22 rfl rfl)
theorem dX0_spent_45 : decode cX0_spent 45 = .ok (.aload_n 0, 1) := dk_42 (dk_at dksX0_spent_1 23 rfl rfl)
theorem dX0_spent_46 : decode cX0_spent 46 = .ok (.iload_n 1, 1) := dk_27 (dk_at dksX0_spent_2 0 rfl rfl)
theorem dX0_spent_47 : decode cX0_spent 47 = .ok (.invokevirtual 428, 3) := dk_182 1 172 (dk_at dksX0_spent_2 1 rfl rfl)
theorem dX0_spent_50 : decode cX0_spent 50 = .ok (.aload_n 0, 1) := dk_42 (dk_at dksX0_spent_2 4 rfl rfl)
theorem dX0_spent_51 : decode cX0_spent 51 = .ok (.getfield 57, 3) := dk_180 0 57 (dk_at dksX0_spent_2 5 rfl rfl)
theorem dX0_spent_54 : decode cX0_spent 54 = .ok (.iload_n 1, 1) := dk_27 (dk_at dksX0_spent_2 8 rfl rfl)
theorem dX0_spent_55 : decode cX0_spent 55 = .ok (.laload, 1) := dk_47 (dk_at dksX0_spent_2 9 rfl rfl)
theorem dX0_spent_56 : decode cX0_spent 56 = .ok (.lstore_n 3, 1) := dk_66 (dk_at dksX0_spent_2 10 rfl rfl)
theorem dX0_spent_57 : decode cX0_spent 57 = .ok (.iload_n 2, 1) := dk_28 (dk_at dksX0_spent_2 11 rfl rfl)
theorem dX0_spent_58 : decode cX0_spent 58 = .ok (.iconst (-1), 1) := dk_2 (dk_at dksX0_spent_2 12 rfl rfl)
theorem dX0_spent_59 : decode cX0_spent 59 = .ok (.if_icmp .ne 10, 3) := dk_160 0 10 (dk_at dksX0_spent_2 13 rfl rfl)
theorem dX0_spent_62 : decode cX0_spent 62 = .ok (.lload_n 3, 1) := dk_33 (dk_at dksX0_spent_2 16 rfl rfl)
theorem dX0_spent_63 : decode cX0_spent 63 = .ok (.ldc2_w 412, 3) := dk_20 1 156 (dk_at dksX0_spent_2 17 rfl rfl)
theorem dX0_spent_66 : decode cX0_spent 66 = .ok (.ldiv, 1) := dk_109 (dk_at dksX0_spent_2 20 rfl rfl)
theorem dX0_spent_67 : decode cX0_spent 67 = .ok (.l2i, 1) := dk_136 (dk_at dksX0_spent_2 21 rfl rfl)
theorem dX0_spent_68 : decode cX0_spent 68 = .ok (.ireturn, 1) := dk_172 (dk_at dksX0_spent_2 22 rfl rfl)
theorem dX0_spent_69 : decode cX0_spent 69 = .ok (.iload_n 2, 1) := dk_28 (dk_at dksX0_spent_2 23 rfl rfl)
theorem dX0_spent_70 : decode cX0_spent 70 = .ok (.bipush 20, 2) := dk_16 20 (dk_at dksX0_spent_3 0 rfl rfl)
theorem dX0_spent_72 : decode cX0_spent 72 = .ok (.if_icmp .ne 10, 3) := dk_160 0 10 (dk_at dksX0_spent_3 2 rfl rfl)
theorem dX0_spent_75 : decode cX0_spent 75 = .ok (.lload_n 3, 1) := dk_33 (dk_at dksX0_spent_3 5 rfl rfl)
theorem dX0_spent_76 : decode cX0_spent 76 = .ok (.ldc2_w 412, 3) := dk_20 1 156 (dk_at dksX0_spent_3 6 rfl rfl)
theorem dX0_spent_79 : decode cX0_spent 79 = .ok (.lrem, 1) := dk_113 (dk_at dksX0_spent_3 9 rfl rfl)
theorem dX0_spent_80 : decode cX0_spent 80 = .ok (.l2i, 1) := dk_136 (dk_at dksX0_spent_3 10 rfl rfl)
theorem dX0_spent_81 : decode cX0_spent 81 = .ok (.ireturn, 1) := dk_172 (dk_at dksX0_spent_3 11 rfl rfl)
theorem dX0_spent_82 : decode cX0_spent 82 = .ok (.iload_n 1, 1) := dk_27 (dk_at dksX0_spent_3 12 rfl rfl)
theorem dX0_spent_83 : decode cX0_spent 83 = .ok (.istore 5, 2) := dk_54 5 (dk_at dksX0_spent_3 13 rfl rfl)
theorem dX0_spent_85 : decode cX0_spent 85 = .ok (.iconst 0, 1) := dk_3 (dk_at dksX0_spent_3 15 rfl rfl)
theorem dX0_spent_86 : decode cX0_spent 86 = .ok (.istore 6, 2) := dk_54 6 (dk_at dksX0_spent_3 16 rfl rfl)
theorem dX0_spent_88 : decode cX0_spent 88 = .ok (.iconst 0, 1) := dk_3 (dk_at dksX0_spent_3 18 rfl rfl)
theorem dX0_spent_89 : decode cX0_spent 89 = .ok (.istore 7, 2) := dk_54 7 (dk_at dksX0_spent_3 19 rfl rfl)
theorem dX0_spent_91 : decode cX0_spent 91 = .ok (.iload 7, 2) := dk_21 7 (dk_at dksX0_spent_3 21 rfl rfl)
theorem dX0_spent_93 : decode cX0_spent 93 = .ok (.iload_n 2, 1) := dk_28 (dk_at dksX0_spent_3 23 rfl rfl)
theorem dX0_spent_94 : decode cX0_spent 94 = .ok (.if_icmp .gt 68, 3) := dk_163 0 68 (dk_at dksX0_spent_4 0 rfl rfl)
theorem dX0_spent_97 : decode cX0_spent 97 = .ok (.iconst 0, 1) := dk_3 (dk_at dksX0_spent_4 3 rfl rfl)
theorem dX0_spent_98 : decode cX0_spent 98 = .ok (.istore 6, 2) := dk_54 6 (dk_at dksX0_spent_4 4 rfl rfl)
theorem dX0_spent_100 : decode cX0_spent 100 = .ok (.aload_n 0, 1) := dk_42 (dk_at dksX0_spent_4 6 rfl rfl)
theorem dX0_spent_101 : decode cX0_spent 101 = .ok (.iload 6, 2) := dk_21 6 (dk_at dksX0_spent_4 7 rfl rfl)
theorem dX0_spent_103 : decode cX0_spent 103 = .ok (.invokevirtual 417, 3) := dk_182 1 161 (dk_at dksX0_spent_4 9 rfl rfl)
theorem dX0_spent_106 : decode cX0_spent 106 = .ok (.iload 5, 2) := dk_21 5 (dk_at dksX0_spent_4 12 rfl rfl)
theorem dX0_spent_108 : decode cX0_spent 108 = .ok (.if_icmp .gt 31, 3) := dk_163 0 31 (dk_at dksX0_spent_4 14 rfl rfl)
theorem dX0_spent_111 : decode cX0_spent 111 = .ok (.aload_n 0, 1) := dk_42 (dk_at dksX0_spent_4 17 rfl rfl)
theorem dX0_spent_112 : decode cX0_spent 112 = .ok (.iload 7, 2) := dk_21 7 (dk_at dksX0_spent_4 18 rfl rfl)
theorem dX0_spent_114 : decode cX0_spent 114 = .ok (.iload 5, 2) := dk_21 5 (dk_at dksX0_spent_4 20 rfl rfl)
theorem dX0_spent_116 : decode cX0_spent 116 = .ok (.iload 6, 2) := dk_21 6 (dk_at dksX0_spent_4 22 rfl rfl)
theorem dX0_spent_118 : decode cX0_spent 118 = .ok (.invokevirtual 420, 3) := dk_182 1 164 (dk_at dksX0_spent_5 0 rfl rfl)
theorem dX0_spent_121 : decode cX0_spent 121 = .ok (.aload_n 0, 1) := dk_42 (dk_at dksX0_spent_5 3 rfl rfl)
theorem dX0_spent_122 : decode cX0_spent 122 = .ok (.getfield 57, 3) := dk_180 0 57 (dk_at dksX0_spent_5 4 rfl rfl)
theorem dX0_spent_125 : decode cX0_spent 125 = .ok (.sipush 1000, 3) := dk_17 3 232 (dk_at dksX0_spent_5 7 rfl rfl)
theorem dX0_spent_128 : decode cX0_spent 128 = .ok (.iload 7, 2) := dk_21 7 (dk_at dksX0_spent_5 10 rfl rfl)
theorem dX0_spent_130 : decode cX0_spent 130 = .ok (.imul, 1) := dk_104 (dk_at dksX0_spent_5 12 rfl rfl)
theorem dX0_spent_131 : decode cX0_spent 131 = .ok (.iload 5, 2) := dk_21 5 (dk_at dksX0_spent_5 13 rfl rfl)
theorem dX0_spent_133 : decode cX0_spent 133 = .ok (.iadd, 1) := dk_96 (dk_at dksX0_spent_5 15 rfl rfl)
theorem dX0_spent_134 : decode cX0_spent 134 = .ok (.laload, 1) := dk_47 (dk_at dksX0_spent_5 16 rfl rfl)
theorem dX0_spent_135 : decode cX0_spent 135 = .ok (.lcmp, 1) := dk_148 (dk_at dksX0_spent_5 17 rfl rfl)
theorem dX0_spent_136 : decode cX0_spent 136 = .ok (.ifCond .eq 9, 3) := dk_153 0 9 (dk_at dksX0_spent_5 18 rfl rfl)
theorem dX0_spent_139 : decode cX0_spent 139 = .ok (.iinc 6 1, 3) := dk_132 6 1 (dk_at dksX0_spent_5 21 rfl rfl)
theorem dX0_spent_142 : decode cX0_spent 142 = .ok (.goto (-42), 3) := dk_167 255 214 (dk_at dksX0_spent_6 0 rfl rfl)
theorem dX0_spent_145 : decode cX0_spent 145 = .ok (.iload 5, 2) := dk_21 5 (dk_at dksX0_spent_6 3 rfl rfl)
theorem dX0_spent_147 : decode cX0_spent 147 = .ok (.aload_n 0, 1) := dk_42 (dk_at dksX0_spent_6 5 rfl rfl)
theorem dX0_spent_148 : decode cX0_spent 148 = .ok (.iload 6, 2) := dk_21 6 (dk_at dksX0_spent_6 6 rfl rfl)
theorem dX0_spent_150 : decode cX0_spent 150 = .ok (.invokevirtual 417, 3) := dk_182 1 161 (dk_at dksX0_spent_6 8 rfl rfl)
theorem dX0_spent_153 : decode cX0_spent 153 = .ok (.isub, 1) := dk_100 (dk_at dksX0_spent_6 11 rfl rfl)
theorem dX0_spent_154 : decode cX0_spent 154 = .ok (.istore 5, 2) := dk_54 5 (dk_at dksX0_spent_6 12 rfl rfl)
theorem dX0_spent_156 : decode cX0_spent 156 = .ok (.iinc 7 1, 3) := dk_132 7 1 (dk_at dksX0_spent_6 14 rfl rfl)
theorem dX0_spent_159 : decode cX0_spent 159 = .ok (.goto (-68), 3) := dk_167 255 188 (dk_at dksX0_spent_6 17 rfl rfl)
theorem dX0_spent_162 : decode cX0_spent 162 = .ok (.iload 6, 2) := dk_21 6 (dk_at dksX0_spent_6 20 rfl rfl)
theorem dX0_spent_164 : decode cX0_spent 164 = .ok (.ireturn, 1) := dk_172 (dk_at dksX0_spent_6 22 rfl rfl)
abbrev cX0_laysSpent : ByteArray := prog_1_method_64_code
def yX0_laysSpent : MethodName := ⟨RX0, "laysSpent", "(I)V"⟩
def dkwX0_laysSpent_5 : List UInt8 := [21, 4, 96, 22, 5, 80, 132, 4, 1, 167, 255, 179, 132, 3, 255, 167, 255, 166, 177]
abbrev dktX0_laysSpent_5 : List UInt8 := dkwX0_laysSpent_5 ++ []
def dkwX0_laysSpent_4 : List UInt8 := [182, 1, 164, 184, 1, 168, 55, 5, 132, 7, 1, 167, 255, 219, 42, 180, 0, 57, 17, 3, 232, 29, 104]
abbrev dktX0_laysSpent_4 : List UInt8 := dkwX0_laysSpent_4 ++ dktX0_laysSpent_5
def dkwX0_laysSpent_3 : List UInt8 := [16, 16, 162, 0, 36, 42, 21, 7, 182, 1, 161, 21, 4, 163, 0, 19, 22, 5, 42, 29, 21, 4, 21, 7]
abbrev dktX0_laysSpent_3 : List UInt8 := dkwX0_laysSpent_3 ++ dktX0_laysSpent_4
def dkwX0_laysSpent_2 : List UInt8 := [54, 4, 21, 4, 27, 163, 0, 77, 42, 29, 21, 4, 3, 182, 1, 164, 55, 5, 4, 54, 7, 21, 7]
abbrev dktX0_laysSpent_2 : List UInt8 := dkwX0_laysSpent_2 ++ dktX0_laysSpent_3
def dkwX0_laysSpent_1 : List UInt8 := [17, 3, 232, 28, 104, 29, 96, 9, 80, 132, 3, 1, 167, 255, 235, 28, 4, 100, 62, 29, 155, 0, 92, 3]
abbrev dktX0_laysSpent_1 : List UInt8 := dkwX0_laysSpent_1 ++ dktX0_laysSpent_2
def dkwX0_laysSpent_0 : List UInt8 := [42, 180, 0, 10, 180, 1, 72, 182, 0, 109, 61, 3, 62, 29, 27, 163, 0, 22, 42, 180, 0, 57]
abbrev dktX0_laysSpent_0 : List UInt8 := dkwX0_laysSpent_0 ++ dktX0_laysSpent_1
theorem dksX0_laysSpent_0 : cX0_laysSpent.data.toList.drop 0 = dktX0_laysSpent_0 := by decide +kernel
theorem dksX0_laysSpent_1 : cX0_laysSpent.data.toList.drop 22 = dktX0_laysSpent_1 := dk_seg dksX0_laysSpent_0 22 rfl rfl
theorem dksX0_laysSpent_2 : cX0_laysSpent.data.toList.drop 46 = dktX0_laysSpent_2 := dk_seg dksX0_laysSpent_1 24 rfl rfl
theorem dksX0_laysSpent_3 : cX0_laysSpent.data.toList.drop 69 = dktX0_laysSpent_3 := dk_seg dksX0_laysSpent_2 23 rfl rfl
theorem dksX0_laysSpent_4 : cX0_laysSpent.data.toList.drop 93 = dktX0_laysSpent_4 := dk_seg dksX0_laysSpent_3 24 rfl rfl
theorem dksX0_laysSpent_5 : cX0_laysSpent.data.toList.drop 116 = dktX0_laysSpent_5 := dk_seg dksX0_laysSpent_4 23 rfl rfl
theorem dX0_laysSpent_0 : decode cX0_laysSpent 0 = .ok (.aload_n 0, 1) := dk_42 (dk_at dksX0_laysSpent_0 0 rfl rfl)
theorem dX0_laysSpent_1 : decode cX0_laysSpent 1 = .ok (.getfield 10, 3) := dk_180 0 10 (dk_at dksX0_laysSpent_0 1 rfl rfl)
theorem dX0_laysSpent_4 : decode cX0_laysSpent 4 = .ok (.getfield 328, 3) := dk_180 1 72 (dk_at dksX0_laysSpent_0 4 rfl rfl)
theorem dX0_laysSpent_7 : decode cX0_laysSpent 7 = .ok (.invokevirtual 109, 3) := dk_182 0 109 (dk_at dksX0_laysSpent_0 7 rfl rfl)
theorem dX0_laysSpent_10 : decode cX0_laysSpent 10 = .ok (.istore_n 2, 1) := dk_61 (dk_at dksX0_laysSpent_0 10 rfl rfl)
theorem dX0_laysSpent_11 : decode cX0_laysSpent 11 = .ok (.iconst 0, 1) := dk_3 (dk_at dksX0_laysSpent_0 11 rfl rfl)
theorem dX0_laysSpent_12 : decode cX0_laysSpent 12 = .ok (.istore_n 3, 1) := dk_62 (dk_at dksX0_laysSpent_0 12 rfl rfl)
theorem dX0_laysSpent_13 : decode cX0_laysSpent 13 = .ok (.iload_n 3, 1) := dk_29 (dk_at dksX0_laysSpent_0 13 rfl rfl)
theorem dX0_laysSpent_14 : decode cX0_laysSpent 14 = .ok (.iload_n 1, 1) := dk_27 (dk_at dksX0_laysSpent_0 14 rfl rfl)
theorem dX0_laysSpent_15 : decode cX0_laysSpent 15 = .ok (.if_icmp .gt 22, 3) := dk_163 0 22 (dk_at dksX0_laysSpent_0 15 rfl rfl)
theorem dX0_laysSpent_18 : decode cX0_laysSpent 18 = .ok (.aload_n 0, 1) := dk_42 (dk_at dksX0_laysSpent_0 18 rfl rfl)
theorem dX0_laysSpent_19 : decode cX0_laysSpent 19 = .ok (.getfield 57, 3) := dk_180 0 57 (dk_at dksX0_laysSpent_0 19 rfl rfl)
theorem dX0_laysSpent_22 : decode cX0_laysSpent 22 = .ok (.sipush 1000, 3) := dk_17 3 232 (dk_at dksX0_laysSpent_1 0 rfl rfl)
theorem dX0_laysSpent_25 : decode cX0_laysSpent 25 = .ok (.iload_n 2, 1) := dk_28 (dk_at dksX0_laysSpent_1 3 rfl rfl)
theorem dX0_laysSpent_26 : decode cX0_laysSpent 26 = .ok (.imul, 1) := dk_104 (dk_at dksX0_laysSpent_1 4 rfl rfl)
theorem dX0_laysSpent_27 : decode cX0_laysSpent 27 = .ok (.iload_n 3, 1) := dk_29 (dk_at dksX0_laysSpent_1 5 rfl rfl)
theorem dX0_laysSpent_28 : decode cX0_laysSpent 28 = .ok (.iadd, 1) := dk_96 (dk_at dksX0_laysSpent_1 6 rfl rfl)
theorem dX0_laysSpent_29 : decode cX0_laysSpent 29 = .ok (.lconst 0, 1) := dk_9 (dk_at dksX0_laysSpent_1 7 rfl rfl)
theorem dX0_laysSpent_30 : decode cX0_laysSpent 30 = .ok (.lastore, 1) := dk_80 (dk_at dksX0_laysSpent_1 8 rfl rfl)
theorem dX0_laysSpent_31 : decode cX0_laysSpent 31 = .ok (.iinc 3 1, 3) := dk_132 3 1 (dk_at dksX0_laysSpent_1 9 rfl rfl)
theorem dX0_laysSpent_34 : decode cX0_laysSpent 34 = .ok (.goto (-21), 3) := dk_167 255 235 (dk_at dksX0_laysSpent_1 12 rfl rfl)
theorem dX0_laysSpent_37 : decode cX0_laysSpent 37 = .ok (.iload_n 2, 1) := dk_28 (dk_at dksX0_laysSpent_1 15 rfl rfl)
theorem dX0_laysSpent_38 : decode cX0_laysSpent 38 = .ok (.iconst 1, 1) := dk_4 (dk_at dksX0_laysSpent_1 16 rfl rfl)
theorem dX0_laysSpent_39 : decode cX0_laysSpent 39 = .ok (.isub, 1) := dk_100 (dk_at dksX0_laysSpent_1 17 rfl rfl)
theorem dX0_laysSpent_40 : decode cX0_laysSpent 40 = .ok (.istore_n 3, 1) := dk_62 (dk_at dksX0_laysSpent_1 18 rfl rfl)
theorem dX0_laysSpent_41 : decode cX0_laysSpent 41 = .ok (.iload_n 3, 1) := dk_29 (dk_at dksX0_laysSpent_1 19 rfl rfl)
theorem dX0_laysSpent_42 : decode cX0_laysSpent 42 = .ok (.ifCond .lt 92, 3) := dk_155 0 92 (dk_at dksX0_laysSpent_1 20 rfl rfl)
theorem dX0_laysSpent_45 : decode cX0_laysSpent 45 = .ok (.iconst 0, 1) := dk_3 (dk_at dksX0_laysSpent_1 23 rfl rfl)
theorem dX0_laysSpent_46 : decode cX0_laysSpent 46 = .ok (.istore 4, 2) := dk_54 4 (dk_at dksX0_laysSpent_2 0 rfl rfl)
theorem dX0_laysSpent_48 : decode cX0_laysSpent 48 = .ok (.iload 4, 2) := dk_21 4 (dk_at dksX0_laysSpent_2 2 rfl rfl)
theorem dX0_laysSpent_50 : decode cX0_laysSpent 50 = .ok (.iload_n 1, 1) := dk_27 (dk_at dksX0_laysSpent_2 4 rfl rfl)
theorem dX0_laysSpent_51 : decode cX0_laysSpent 51 = .ok (.if_icmp .gt 77, 3) := dk_163 0 77 (dk_at dksX0_laysSpent_2 5 rfl rfl)
theorem dX0_laysSpent_54 : decode cX0_laysSpent 54 = .ok (.aload_n 0, 1) := dk_42 (dk_at dksX0_laysSpent_2 8 rfl rfl)
theorem dX0_laysSpent_55 : decode cX0_laysSpent 55 = .ok (.iload_n 3, 1) := dk_29 (dk_at dksX0_laysSpent_2 9 rfl rfl)
theorem dX0_laysSpent_56 : decode cX0_laysSpent 56 = .ok (.iload 4, 2) := dk_21 4 (dk_at dksX0_laysSpent_2 10 rfl rfl)
theorem dX0_laysSpent_58 : decode cX0_laysSpent 58 = .ok (.iconst 0, 1) := dk_3 (dk_at dksX0_laysSpent_2 12 rfl rfl)
theorem dX0_laysSpent_59 : decode cX0_laysSpent 59 = .ok (.invokevirtual 420, 3) := dk_182 1 164 (dk_at dksX0_laysSpent_2 13 rfl rfl)
theorem dX0_laysSpent_62 : decode cX0_laysSpent 62 = .ok (.lstore 5, 2) := dk_55 5 (dk_at dksX0_laysSpent_2 16 rfl rfl)
theorem dX0_laysSpent_64 : decode cX0_laysSpent 64 = .ok (.iconst 1, 1) := dk_4 (dk_at dksX0_laysSpent_2 18 rfl rfl)
theorem dX0_laysSpent_65 : decode cX0_laysSpent 65 = .ok (.istore 7, 2) := dk_54 7 (dk_at dksX0_laysSpent_2 19 rfl rfl)
theorem dX0_laysSpent_67 : decode cX0_laysSpent 67 = .ok (.iload 7, 2) := dk_21 7 (dk_at dksX0_laysSpent_2 21 rfl rfl)
theorem dX0_laysSpent_69 : decode cX0_laysSpent 69 = .ok (.bipush 16, 2) := dk_16 16 (dk_at dksX0_laysSpent_3 0 rfl rfl)
theorem dX0_laysSpent_71 : decode cX0_laysSpent 71 = .ok (.if_icmp .ge 36, 3) := dk_162 0 36 (dk_at dksX0_laysSpent_3 2 rfl rfl)
theorem dX0_laysSpent_74 : decode cX0_laysSpent 74 = .ok (.aload_n 0, 1) := dk_42 (dk_at dksX0_laysSpent_3 5 rfl rfl)
theorem dX0_laysSpent_75 : decode cX0_laysSpent 75 = .ok (.iload 7, 2) := dk_21 7 (dk_at dksX0_laysSpent_3 6 rfl rfl)
theorem dX0_laysSpent_77 : decode cX0_laysSpent 77 = .ok (.invokevirtual 417, 3) := dk_182 1 161 (dk_at dksX0_laysSpent_3 8 rfl rfl)
theorem dX0_laysSpent_80 : decode cX0_laysSpent 80 = .ok (.iload 4, 2) := dk_21 4 (dk_at dksX0_laysSpent_3 11 rfl rfl)
theorem dX0_laysSpent_82 : decode cX0_laysSpent 82 = .ok (.if_icmp .gt 19, 3) := dk_163 0 19 (dk_at dksX0_laysSpent_3 13 rfl rfl)
theorem dX0_laysSpent_85 : decode cX0_laysSpent 85 = .ok (.lload 5, 2) := dk_22 5 (dk_at dksX0_laysSpent_3 16 rfl rfl)
theorem dX0_laysSpent_87 : decode cX0_laysSpent 87 = .ok (.aload_n 0, 1) := dk_42 (dk_at dksX0_laysSpent_3 18 rfl rfl)
theorem dX0_laysSpent_88 : decode cX0_laysSpent 88 = .ok (.iload_n 3, 1) := dk_29 (dk_at dksX0_laysSpent_3 19 rfl rfl)
theorem dX0_laysSpent_89 : decode cX0_laysSpent 89 = .ok (.iload 4, 2) := dk_21 4 (dk_at dksX0_laysSpent_3 20 rfl rfl)
theorem dX0_laysSpent_91 : decode cX0_laysSpent 91 = .ok (.iload 7, 2) := dk_21 7 (dk_at dksX0_laysSpent_3 22 rfl rfl)
theorem dX0_laysSpent_93 : decode cX0_laysSpent 93 = .ok (.invokevirtual 420, 3) := dk_182 1 164 (dk_at dksX0_laysSpent_4 0 rfl rfl)
theorem dX0_laysSpent_96 : decode cX0_laysSpent 96 = .ok (.invokestatic 424, 3) := dk_184 1 168 (dk_at dksX0_laysSpent_4 3 rfl rfl)
theorem dX0_laysSpent_99 : decode cX0_laysSpent 99 = .ok (.lstore 5, 2) := dk_55 5 (dk_at dksX0_laysSpent_4 6 rfl rfl)
theorem dX0_laysSpent_101 : decode cX0_laysSpent 101 = .ok (.iinc 7 1, 3) := dk_132 7 1 (dk_at dksX0_laysSpent_4 8 rfl rfl)
theorem dX0_laysSpent_104 : decode cX0_laysSpent 104 = .ok (.goto (-37), 3) := dk_167 255 219 (dk_at dksX0_laysSpent_4 11 rfl rfl)
theorem dX0_laysSpent_107 : decode cX0_laysSpent 107 = .ok (.aload_n 0, 1) := dk_42 (dk_at dksX0_laysSpent_4 14 rfl rfl)
theorem dX0_laysSpent_108 : decode cX0_laysSpent 108 = .ok (.getfield 57, 3) := dk_180 0 57 (dk_at dksX0_laysSpent_4 15 rfl rfl)
theorem dX0_laysSpent_111 : decode cX0_laysSpent 111 = .ok (.sipush 1000, 3) := dk_17 3 232 (dk_at dksX0_laysSpent_4 18 rfl rfl)
theorem dX0_laysSpent_114 : decode cX0_laysSpent 114 = .ok (.iload_n 3, 1) := dk_29 (dk_at dksX0_laysSpent_4 21 rfl rfl)
theorem dX0_laysSpent_115 : decode cX0_laysSpent 115 = .ok (.imul, 1) := dk_104 (dk_at dksX0_laysSpent_4 22 rfl rfl)
theorem dX0_laysSpent_116 : decode cX0_laysSpent 116 = .ok (.iload 4, 2) := dk_21 4 (dk_at dksX0_laysSpent_5 0 rfl rfl)
theorem dX0_laysSpent_118 : decode cX0_laysSpent 118 = .ok (.iadd, 1) := dk_96 (dk_at dksX0_laysSpent_5 2 rfl rfl)
theorem dX0_laysSpent_119 : decode cX0_laysSpent 119 = .ok (.lload 5, 2) := dk_22 5 (dk_at dksX0_laysSpent_5 3 rfl rfl)
theorem dX0_laysSpent_121 : decode cX0_laysSpent 121 = .ok (.lastore, 1) := dk_80 (dk_at dksX0_laysSpent_5 5 rfl rfl)
theorem dX0_laysSpent_122 : decode cX0_laysSpent 122 = .ok (.iinc 4 1, 3) := dk_132 4 1 (dk_at dksX0_laysSpent_5 6 rfl rfl)
theorem dX0_laysSpent_125 : decode cX0_laysSpent 125 = .ok (.goto (-77), 3) := dk_167 255 179 (dk_at dksX0_laysSpent_5 9 rfl rfl)
theorem dX0_laysSpent_128 : decode cX0_laysSpent 128 = .ok (.iinc 3 (-1), 3) := dk_132 3 255 (dk_at dksX0_laysSpent_5 12 rfl rfl)
theorem dX0_laysSpent_131 : decode cX0_laysSpent 131 = .ok (.goto (-90), 3) := dk_167 255 166 (dk_at dksX0_laysSpent_5 15 rfl rfl)
theorem dX0_laysSpent_134 : decode cX0_laysSpent 134 = .ok (.return_, 1) := dk_177 (dk_at dksX0_laysSpent_5 18 rfl rfl)
abbrev cX0_spends : ByteArray := prog_1_method_63_code
def yX0_spends : MethodName := ⟨RX0, "spends", "(III)J"⟩
def dkwX0_spends_1 : List UInt8 := [17, 3, 232, 27, 4, 96, 104, 28, 96, 42, 29, 182, 1, 161, 100, 47, 97, 173]
abbrev dktX0_spends_1 : List UInt8 := dkwX0_spends_1 ++ []
def dkwX0_spends_0 : List UInt8 := [20, 1, 156, 42, 27, 29, 182, 1, 158, 133, 105, 42, 29, 182, 1, 161, 133, 97, 42, 180, 0, 57]
abbrev dktX0_spends_0 : List UInt8 := dkwX0_spends_0 ++ dktX0_spends_1
theorem dksX0_spends_0 : cX0_spends.data.toList.drop 0 = dktX0_spends_0 := by decide +kernel
theorem dksX0_spends_1 : cX0_spends.data.toList.drop 22 = dktX0_spends_1 := dk_seg dksX0_spends_0 22 rfl rfl
theorem dX0_spends_0 : decode cX0_spends 0 = .ok (.ldc2_w 412, 3) := dk_20 1 156 (dk_at dksX0_spends_0 0 rfl rfl)
theorem dX0_spends_3 : decode cX0_spends 3 = .ok (.aload_n 0, 1) := dk_42 (dk_at dksX0_spends_0 3 rfl rfl)
theorem dX0_spends_4 : decode cX0_spends 4 = .ok (.iload_n 1, 1) := dk_27 (dk_at dksX0_spends_0 4 rfl rfl)
theorem dX0_spends_5 : decode cX0_spends 5 = .ok (.iload_n 3, 1) := dk_29 (dk_at dksX0_spends_0 5 rfl rfl)
theorem dX0_spends_6 : decode cX0_spends 6 = .ok (.invokevirtual 414, 3) := dk_182 1 158 (dk_at dksX0_spends_0 6 rfl rfl)
theorem dX0_spends_9 : decode cX0_spends 9 = .ok (.i2l, 1) := dk_133 (dk_at dksX0_spends_0 9 rfl rfl)
theorem dX0_spends_10 : decode cX0_spends 10 = .ok (.lmul, 1) := dk_105 (dk_at dksX0_spends_0 10 rfl rfl)
theorem dX0_spends_11 : decode cX0_spends 11 = .ok (.aload_n 0, 1) := dk_42 (dk_at dksX0_spends_0 11 rfl rfl)
theorem dX0_spends_12 : decode cX0_spends 12 = .ok (.iload_n 3, 1) := dk_29 (dk_at dksX0_spends_0 12 rfl rfl)
theorem dX0_spends_13 : decode cX0_spends 13 = .ok (.invokevirtual 417, 3) := dk_182 1 161 (dk_at dksX0_spends_0 13 rfl rfl)
theorem dX0_spends_16 : decode cX0_spends 16 = .ok (.i2l, 1) := dk_133 (dk_at dksX0_spends_0 16 rfl rfl)
theorem dX0_spends_17 : decode cX0_spends 17 = .ok (.ladd, 1) := dk_97 (dk_at dksX0_spends_0 17 rfl rfl)
theorem dX0_spends_18 : decode cX0_spends 18 = .ok (.aload_n 0, 1) := dk_42 (dk_at dksX0_spends_0 18 rfl rfl)
theorem dX0_spends_19 : decode cX0_spends 19 = .ok (.getfield 57, 3) := dk_180 0 57 (dk_at dksX0_spends_0 19 rfl rfl)
theorem dX0_spends_22 : decode cX0_spends 22 = .ok (.sipush 1000, 3) := dk_17 3 232 (dk_at dksX0_spends_1 0 rfl rfl)
theorem dX0_spends_25 : decode cX0_spends 25 = .ok (.iload_n 1, 1) := dk_27 (dk_at dksX0_spends_1 3 rfl rfl)
theorem dX0_spends_26 : decode cX0_spends 26 = .ok (.iconst 1, 1) := dk_4 (dk_at dksX0_spends_1 4 rfl rfl)
theorem dX0_spends_27 : decode cX0_spends 27 = .ok (.iadd, 1) := dk_96 (dk_at dksX0_spends_1 5 rfl rfl)
theorem dX0_spends_28 : decode cX0_spends 28 = .ok (.imul, 1) := dk_104 (dk_at dksX0_spends_1 6 rfl rfl)
theorem dX0_spends_29 : decode cX0_spends 29 = .ok (.iload_n 2, 1) := dk_28 (dk_at dksX0_spends_1 7 rfl rfl)
theorem dX0_spends_30 : decode cX0_spends 30 = .ok (.iadd, 1) := dk_96 (dk_at dksX0_spends_1 8 rfl rfl)
theorem dX0_spends_31 : decode cX0_spends 31 = .ok (.aload_n 0, 1) := dk_42 (dk_at dksX0_spends_1 9 rfl rfl)
theorem dX0_spends_32 : decode cX0_spends 32 = .ok (.iload_n 3, 1) := dk_29 (dk_at dksX0_spends_1 10 rfl rfl)
theorem dX0_spends_33 : decode cX0_spends 33 = .ok (.invokevirtual 417, 3) := dk_182 1 161 (dk_at dksX0_spends_1 11 rfl rfl)
theorem dX0_spends_36 : decode cX0_spends 36 = .ok (.isub, 1) := dk_100 (dk_at dksX0_spends_1 14 rfl rfl)
theorem dX0_spends_37 : decode cX0_spends 37 = .ok (.laload, 1) := dk_47 (dk_at dksX0_spends_1 15 rfl rfl)
theorem dX0_spends_38 : decode cX0_spends 38 = .ok (.ladd, 1) := dk_97 (dk_at dksX0_spends_1 16 rfl rfl)
theorem dX0_spends_39 : decode cX0_spends 39 = .ok (.lreturn, 1) := dk_173 (dk_at dksX0_spends_1 17 rfl rfl)
abbrev cX0_leftAt : ByteArray := prog_1_method_62_code
def yX0_leftAt : MethodName := ⟨RX0, "leftAt", "(II)I"⟩
def dkwX0_leftAt_3 : List UInt8 := [29, 172]
abbrev dktX0_leftAt_3 : List UInt8 := dkwX0_leftAt_3 ++ []
def dkwX0_leftAt_2 : List UInt8 := [180, 1, 153, 21, 4, 46, 133, 105, 20, 1, 7, 109, 136, 167, 0, 4, 29, 62, 132, 4, 1, 167, 255, 214]
abbrev dktX0_leftAt_2 : List UInt8 := dkwX0_leftAt_2 ++ dktX0_leftAt_3
def dkwX0_leftAt_1 : List UInt8 := [54, 4, 21, 4, 7, 162, 0, 42, 28, 21, 4, 184, 1, 122, 153, 0, 25, 29, 133, 42, 180, 0, 10]
abbrev dktX0_leftAt_1 : List UInt8 := dkwX0_leftAt_1 ++ dktX0_leftAt_2
def dkwX0_leftAt_0 : List UInt8 := [17, 39, 16, 42, 180, 0, 10, 180, 1, 72, 27, 182, 0, 133, 192, 1, 77, 182, 1, 103, 104, 62, 3]
abbrev dktX0_leftAt_0 : List UInt8 := dkwX0_leftAt_0 ++ dktX0_leftAt_1
theorem dksX0_leftAt_0 : cX0_leftAt.data.toList.drop 0 = dktX0_leftAt_0 := by decide +kernel
theorem dksX0_leftAt_1 : cX0_leftAt.data.toList.drop 23 = dktX0_leftAt_1 := dk_seg dksX0_leftAt_0 23 rfl rfl
theorem dksX0_leftAt_2 : cX0_leftAt.data.toList.drop 46 = dktX0_leftAt_2 := dk_seg dksX0_leftAt_1 23 rfl rfl
theorem dksX0_leftAt_3 : cX0_leftAt.data.toList.drop 70 = dktX0_leftAt_3 := dk_seg dksX0_leftAt_2 24 rfl rfl
theorem dX0_leftAt_0 : decode cX0_leftAt 0 = .ok (.sipush 10000, 3) := dk_17 39 16 (dk_at dksX0_leftAt_0 0 rfl rfl)
theorem dX0_leftAt_3 : decode cX0_leftAt 3 = .ok (.aload_n 0, 1) := dk_42 (dk_at dksX0_leftAt_0 3 rfl rfl)
theorem dX0_leftAt_4 : decode cX0_leftAt 4 = .ok (.getfield 10, 3) := dk_180 0 10 (dk_at dksX0_leftAt_0 4 rfl rfl)
theorem dX0_leftAt_7 : decode cX0_leftAt 7 = .ok (.getfield 328, 3) := dk_180 1 72 (dk_at dksX0_leftAt_0 7 rfl rfl)
theorem dX0_leftAt_10 : decode cX0_leftAt 10 = .ok (.iload_n 1, 1) := dk_27 (dk_at dksX0_leftAt_0 10 rfl rfl)
theorem dX0_leftAt_11 : decode cX0_leftAt 11 = .ok (.invokevirtual 133, 3) := dk_182 0 133 (dk_at dksX0_leftAt_0 11 rfl rfl)
theorem dX0_leftAt_14 : decode cX0_leftAt 14 = .ok (.checkcast 333, 3) := dk_192 1 77 (dk_at dksX0_leftAt_0 14 rfl rfl)
theorem dX0_leftAt_17 : decode cX0_leftAt 17 = .ok (.invokevirtual 359, 3) := dk_182 1 103 (dk_at dksX0_leftAt_0 17 rfl rfl)
theorem dX0_leftAt_20 : decode cX0_leftAt 20 = .ok (.imul, 1) := dk_104 (dk_at dksX0_leftAt_0 20 rfl rfl)
theorem dX0_leftAt_21 : decode cX0_leftAt 21 = .ok (.istore_n 3, 1) := dk_62 (dk_at dksX0_leftAt_0 21 rfl rfl)
theorem dX0_leftAt_22 : decode cX0_leftAt 22 = .ok (.iconst 0, 1) := dk_3 (dk_at dksX0_leftAt_0 22 rfl rfl)
theorem dX0_leftAt_23 : decode cX0_leftAt 23 = .ok (.istore 4, 2) := dk_54 4 (dk_at dksX0_leftAt_1 0 rfl rfl)
theorem dX0_leftAt_25 : decode cX0_leftAt 25 = .ok (.iload 4, 2) := dk_21 4 (dk_at dksX0_leftAt_1 2 rfl rfl)
theorem dX0_leftAt_27 : decode cX0_leftAt 27 = .ok (.iconst 4, 1) := dk_7 (dk_at dksX0_leftAt_1 4 rfl rfl)
theorem dX0_leftAt_28 : decode cX0_leftAt 28 = .ok (.if_icmp .ge 42, 3) := dk_162 0 42 (dk_at dksX0_leftAt_1 5 rfl rfl)
theorem dX0_leftAt_31 : decode cX0_leftAt 31 = .ok (.iload_n 2, 1) := dk_28 (dk_at dksX0_leftAt_1 8 rfl rfl)
theorem dX0_leftAt_32 : decode cX0_leftAt 32 = .ok (.iload 4, 2) := dk_21 4 (dk_at dksX0_leftAt_1 9 rfl rfl)
theorem dX0_leftAt_34 : decode cX0_leftAt 34 = .ok (.invokestatic 378, 3) := dk_184 1 122 (dk_at dksX0_leftAt_1 11 rfl rfl)
theorem dX0_leftAt_37 : decode cX0_leftAt 37 = .ok (.ifCond .eq 25, 3) := dk_153 0 25 (dk_at dksX0_leftAt_1 14 rfl rfl)
theorem dX0_leftAt_40 : decode cX0_leftAt 40 = .ok (.iload_n 3, 1) := dk_29 (dk_at dksX0_leftAt_1 17 rfl rfl)
theorem dX0_leftAt_41 : decode cX0_leftAt 41 = .ok (.i2l, 1) := dk_133 (dk_at dksX0_leftAt_1 18 rfl rfl)
theorem dX0_leftAt_42 : decode cX0_leftAt 42 = .ok (.aload_n 0, 1) := dk_42 (dk_at dksX0_leftAt_1 19 rfl rfl)
theorem dX0_leftAt_43 : decode cX0_leftAt 43 = .ok (.getfield 10, 3) := dk_180 0 10 (dk_at dksX0_leftAt_1 20 rfl rfl)
theorem dX0_leftAt_46 : decode cX0_leftAt 46 = .ok (.getfield 409, 3) := dk_180 1 153 (dk_at dksX0_leftAt_2 0 rfl rfl)
theorem dX0_leftAt_49 : decode cX0_leftAt 49 = .ok (.iload 4, 2) := dk_21 4 (dk_at dksX0_leftAt_2 3 rfl rfl)
theorem dX0_leftAt_51 : decode cX0_leftAt 51 = .ok (.iaload, 1) := dk_46 (dk_at dksX0_leftAt_2 5 rfl rfl)
theorem dX0_leftAt_52 : decode cX0_leftAt 52 = .ok (.i2l, 1) := dk_133 (dk_at dksX0_leftAt_2 6 rfl rfl)
theorem dX0_leftAt_53 : decode cX0_leftAt 53 = .ok (.lmul, 1) := dk_105 (dk_at dksX0_leftAt_2 7 rfl rfl)
theorem dX0_leftAt_54 : decode cX0_leftAt 54 = .ok (.ldc2_w 263, 3) := dk_20 1 7 (dk_at dksX0_leftAt_2 8 rfl rfl)
theorem dX0_leftAt_57 : decode cX0_leftAt 57 = .ok (.ldiv, 1) := dk_109 (dk_at dksX0_leftAt_2 11 rfl rfl)
theorem dX0_leftAt_58 : decode cX0_leftAt 58 = .ok (.l2i, 1) := dk_136 (dk_at dksX0_leftAt_2 12 rfl rfl)
theorem dX0_leftAt_59 : decode cX0_leftAt 59 = .ok (.goto 4, 3) := dk_167 0 4 (dk_at dksX0_leftAt_2 13 rfl rfl)
theorem dX0_leftAt_62 : decode cX0_leftAt 62 = .ok (.iload_n 3, 1) := dk_29 (dk_at dksX0_leftAt_2 16 rfl rfl)
theorem dX0_leftAt_63 : decode cX0_leftAt 63 = .ok (.istore_n 3, 1) := dk_62 (dk_at dksX0_leftAt_2 17 rfl rfl)
theorem dX0_leftAt_64 : decode cX0_leftAt 64 = .ok (.iinc 4 1, 3) := dk_132 4 1 (dk_at dksX0_leftAt_2 18 rfl rfl)
theorem dX0_leftAt_67 : decode cX0_leftAt 67 = .ok (.goto (-42), 3) := dk_167 255 214 (dk_at dksX0_leftAt_2 21 rfl rfl)
theorem dX0_leftAt_70 : decode cX0_leftAt 70 = .ok (.iload_n 3, 1) := dk_29 (dk_at dksX0_leftAt_3 0 rfl rfl)
theorem dX0_leftAt_71 : decode cX0_leftAt 71 = .ok (.ireturn, 1) := dk_172 (dk_at dksX0_leftAt_3 1 rfl rfl)
abbrev cX0_costOf : ByteArray := prog_1_method_61_code
def yX0_costOf : MethodName := ⟨RX0, "costOf", "(I)I"⟩
def dkwX0_costOf_1 : List UInt8 := [180, 1, 150, 29, 46, 167, 0, 4, 3, 96, 61, 132, 3, 1, 167, 255, 224, 28, 172]
abbrev dktX0_costOf_1 : List UInt8 := dkwX0_costOf_1 ++ []
def dkwX0_costOf_0 : List UInt8 := [3, 61, 3, 62, 29, 7, 162, 0, 33, 28, 27, 29, 184, 1, 122, 153, 0, 15, 42, 180, 0, 10]
abbrev dktX0_costOf_0 : List UInt8 := dkwX0_costOf_0 ++ dktX0_costOf_1
theorem dksX0_costOf_0 : cX0_costOf.data.toList.drop 0 = dktX0_costOf_0 := by decide +kernel
theorem dksX0_costOf_1 : cX0_costOf.data.toList.drop 22 = dktX0_costOf_1 := dk_seg dksX0_costOf_0 22 rfl rfl
theorem dX0_costOf_0 : decode cX0_costOf 0 = .ok (.iconst 0, 1) := dk_3 (dk_at dksX0_costOf_0 0 rfl rfl)
theorem dX0_costOf_1 : decode cX0_costOf 1 = .ok (.istore_n 2, 1) := dk_61 (dk_at dksX0_costOf_0 1 rfl rfl)
theorem dX0_costOf_2 : decode cX0_costOf 2 = .ok (.iconst 0, 1) := dk_3 (dk_at dksX0_costOf_0 2 rfl rfl)
theorem dX0_costOf_3 : decode cX0_costOf 3 = .ok (.istore_n 3, 1) := dk_62 (dk_at dksX0_costOf_0 3 rfl rfl)
theorem dX0_costOf_4 : decode cX0_costOf 4 = .ok (.iload_n 3, 1) := dk_29 (dk_at dksX0_costOf_0 4 rfl rfl)
theorem dX0_costOf_5 : decode cX0_costOf 5 = .ok (.iconst 4, 1) := dk_7 (dk_at dksX0_costOf_0 5 rfl rfl)
theorem dX0_costOf_6 : decode cX0_costOf 6 = .ok (.if_icmp .ge 33, 3) := dk_162 0 33 (dk_at dksX0_costOf_0 6 rfl rfl)
theorem dX0_costOf_9 : decode cX0_costOf 9 = .ok (.iload_n 2, 1) := dk_28 (dk_at dksX0_costOf_0 9 rfl rfl)
theorem dX0_costOf_10 : decode cX0_costOf 10 = .ok (.iload_n 1, 1) := dk_27 (dk_at dksX0_costOf_0 10 rfl rfl)
theorem dX0_costOf_11 : decode cX0_costOf 11 = .ok (.iload_n 3, 1) := dk_29 (dk_at dksX0_costOf_0 11 rfl rfl)
theorem dX0_costOf_12 : decode cX0_costOf 12 = .ok (.invokestatic 378, 3) := dk_184 1 122 (dk_at dksX0_costOf_0 12 rfl rfl)
theorem dX0_costOf_15 : decode cX0_costOf 15 = .ok (.ifCond .eq 15, 3) := dk_153 0 15 (dk_at dksX0_costOf_0 15 rfl rfl)
theorem dX0_costOf_18 : decode cX0_costOf 18 = .ok (.aload_n 0, 1) := dk_42 (dk_at dksX0_costOf_0 18 rfl rfl)
theorem dX0_costOf_19 : decode cX0_costOf 19 = .ok (.getfield 10, 3) := dk_180 0 10 (dk_at dksX0_costOf_0 19 rfl rfl)
theorem dX0_costOf_22 : decode cX0_costOf 22 = .ok (.getfield 406, 3) := dk_180 1 150 (dk_at dksX0_costOf_1 0 rfl rfl)
theorem dX0_costOf_25 : decode cX0_costOf 25 = .ok (.iload_n 3, 1) := dk_29 (dk_at dksX0_costOf_1 3 rfl rfl)
theorem dX0_costOf_26 : decode cX0_costOf 26 = .ok (.iaload, 1) := dk_46 (dk_at dksX0_costOf_1 4 rfl rfl)
theorem dX0_costOf_27 : decode cX0_costOf 27 = .ok (.goto 4, 3) := dk_167 0 4 (dk_at dksX0_costOf_1 5 rfl rfl)
theorem dX0_costOf_30 : decode cX0_costOf 30 = .ok (.iconst 0, 1) := dk_3 (dk_at dksX0_costOf_1 8 rfl rfl)
theorem dX0_costOf_31 : decode cX0_costOf 31 = .ok (.iadd, 1) := dk_96 (dk_at dksX0_costOf_1 9 rfl rfl)
theorem dX0_costOf_32 : decode cX0_costOf 32 = .ok (.istore_n 2, 1) := dk_61 (dk_at dksX0_costOf_1 10 rfl rfl)
theorem dX0_costOf_33 : decode cX0_costOf 33 = .ok (.iinc 3 1, 3) := dk_132 3 1 (dk_at dksX0_costOf_1 11 rfl rfl)
theorem dX0_costOf_36 : decode cX0_costOf 36 = .ok (.goto (-32), 3) := dk_167 255 224 (dk_at dksX0_costOf_1 14 rfl rfl)
theorem dX0_costOf_39 : decode cX0_costOf 39 = .ok (.iload_n 2, 1) := dk_28 (dk_at dksX0_costOf_1 17 rfl rfl)
theorem dX0_costOf_40 : decode cX0_costOf 40 = .ok (.ireturn, 1) := dk_172 (dk_at dksX0_costOf_1 18 rfl rfl)
abbrev cX0_fine : ByteArray := prog_1_method_66_code
def yX0_fine : MethodName := ⟨RX0, "fine", "(IIII)I"⟩
def dkwX0_fine_3 : List UInt8 := [21, 5, 28, 21, 5, 100, 29, 104, 16, 100, 108, 96, 54, 5, 132, 6, 1, 167, 255, 232, 21, 5, 172]
abbrev dktX0_fine_3 : List UInt8 := dkwX0_fine_3 ++ []
def dkwX0_fine_2 : List UInt8 := [154, 0, 10, 42, 16, 253, 182, 0, 73, 172, 27, 54, 5, 3, 54, 6, 21, 6, 21, 4, 162, 0, 23]
abbrev dktX0_fine_2 : List UInt8 := dkwX0_fine_2 ++ dktX0_fine_3
def dkwX0_fine_1 : List UInt8 := [29, 133, 9, 20, 1, 7, 184, 0, 81, 153, 0, 16, 21, 4, 133, 9, 20, 0, 163, 184, 0, 81]
abbrev dktX0_fine_1 : List UInt8 := dkwX0_fine_1 ++ dktX0_fine_2
def dkwX0_fine_0 : List UInt8 := [27, 133, 9, 20, 1, 33, 184, 0, 81, 153, 0, 40, 28, 133, 9, 20, 1, 33, 184, 0, 81, 153, 0, 28]
abbrev dktX0_fine_0 : List UInt8 := dkwX0_fine_0 ++ dktX0_fine_1
theorem dksX0_fine_0 : cX0_fine.data.toList.drop 0 = dktX0_fine_0 := by decide +kernel
theorem dksX0_fine_1 : cX0_fine.data.toList.drop 24 = dktX0_fine_1 := dk_seg dksX0_fine_0 24 rfl rfl
theorem dksX0_fine_2 : cX0_fine.data.toList.drop 46 = dktX0_fine_2 := dk_seg dksX0_fine_1 22 rfl rfl
theorem dksX0_fine_3 : cX0_fine.data.toList.drop 69 = dktX0_fine_3 := dk_seg dksX0_fine_2 23 rfl rfl
theorem dX0_fine_0 : decode cX0_fine 0 = .ok (.iload_n 1, 1) := dk_27 (dk_at dksX0_fine_0 0 rfl rfl)
theorem dX0_fine_1 : decode cX0_fine 1 = .ok (.i2l, 1) := dk_133 (dk_at dksX0_fine_0 1 rfl rfl)
theorem dX0_fine_2 : decode cX0_fine 2 = .ok (.lconst 0, 1) := dk_9 (dk_at dksX0_fine_0 2 rfl rfl)
theorem dX0_fine_3 : decode cX0_fine 3 = .ok (.ldc2_w 289, 3) := dk_20 1 33 (dk_at dksX0_fine_0 3 rfl rfl)
theorem dX0_fine_6 : decode cX0_fine 6 = .ok (.invokestatic 81, 3) := dk_184 0 81 (dk_at dksX0_fine_0 6 rfl rfl)
theorem dX0_fine_9 : decode cX0_fine 9 = .ok (.ifCond .eq 40, 3) := dk_153 0 40 (dk_at dksX0_fine_0 9 rfl rfl)
theorem dX0_fine_12 : decode cX0_fine 12 = .ok (.iload_n 2, 1) := dk_28 (dk_at dksX0_fine_0 12 rfl rfl)
theorem dX0_fine_13 : decode cX0_fine 13 = .ok (.i2l, 1) := dk_133 (dk_at dksX0_fine_0 13 rfl rfl)
theorem dX0_fine_14 : decode cX0_fine 14 = .ok (.lconst 0, 1) := dk_9 (dk_at dksX0_fine_0 14 rfl rfl)
theorem dX0_fine_15 : decode cX0_fine 15 = .ok (.ldc2_w 289, 3) := dk_20 1 33 (dk_at dksX0_fine_0 15 rfl rfl)
theorem dX0_fine_18 : decode cX0_fine 18 = .ok (.invokestatic 81, 3) := dk_184 0 81 (dk_at dksX0_fine_0 18 rfl rfl)
theorem dX0_fine_21 : decode cX0_fine 21 = .ok (.ifCond .eq 28, 3) := dk_153 0 28 (dk_at dksX0_fine_0 21 rfl rfl)
theorem dX0_fine_24 : decode cX0_fine 24 = .ok (.iload_n 3, 1) := dk_29 (dk_at dksX0_fine_1 0 rfl rfl)
theorem dX0_fine_25 : decode cX0_fine 25 = .ok (.i2l, 1) := dk_133 (dk_at dksX0_fine_1 1 rfl rfl)
theorem dX0_fine_26 : decode cX0_fine 26 = .ok (.lconst 0, 1) := dk_9 (dk_at dksX0_fine_1 2 rfl rfl)
theorem dX0_fine_27 : decode cX0_fine 27 = .ok (.ldc2_w 263, 3) := dk_20 1 7 (dk_at dksX0_fine_1 3 rfl rfl)
theorem dX0_fine_30 : decode cX0_fine 30 = .ok (.invokestatic 81, 3) := dk_184 0 81 (dk_at dksX0_fine_1 6 rfl rfl)
theorem dX0_fine_33 : decode cX0_fine 33 = .ok (.ifCond .eq 16, 3) := dk_153 0 16 (dk_at dksX0_fine_1 9 rfl rfl)
theorem dX0_fine_36 : decode cX0_fine 36 = .ok (.iload 4, 2) := dk_21 4 (dk_at dksX0_fine_1 12 rfl rfl)
theorem dX0_fine_38 : decode cX0_fine 38 = .ok (.i2l, 1) := dk_133 (dk_at dksX0_fine_1 14 rfl rfl)
theorem dX0_fine_39 : decode cX0_fine 39 = .ok (.lconst 0, 1) := dk_9 (dk_at dksX0_fine_1 15 rfl rfl)
theorem dX0_fine_40 : decode cX0_fine 40 = .ok (.ldc2_w 163, 3) := dk_20 0 163 (dk_at dksX0_fine_1 16 rfl rfl)
theorem dX0_fine_43 : decode cX0_fine 43 = .ok (.invokestatic 81, 3) := dk_184 0 81 (dk_at dksX0_fine_1 19 rfl rfl)
theorem dX0_fine_46 : decode cX0_fine 46 = .ok (.ifCond .ne 10, 3) := dk_154 0 10 (dk_at dksX0_fine_2 0 rfl rfl)
theorem dX0_fine_49 : decode cX0_fine 49 = .ok (.aload_n 0, 1) := dk_42 (dk_at dksX0_fine_2 3 rfl rfl)
theorem dX0_fine_50 : decode cX0_fine 50 = .ok (.bipush (-3), 2) := dk_16 253 (dk_at dksX0_fine_2 4 rfl rfl)
theorem dX0_fine_52 : decode cX0_fine 52 = .ok (.invokevirtual 73, 3) := dk_182 0 73 (dk_at dksX0_fine_2 6 rfl rfl)
theorem dX0_fine_55 : decode cX0_fine 55 = .ok (.ireturn, 1) := dk_172 (dk_at dksX0_fine_2 9 rfl rfl)
theorem dX0_fine_56 : decode cX0_fine 56 = .ok (.iload_n 1, 1) := dk_27 (dk_at dksX0_fine_2 10 rfl rfl)
theorem dX0_fine_57 : decode cX0_fine 57 = .ok (.istore 5, 2) := dk_54 5 (dk_at dksX0_fine_2 11 rfl rfl)
theorem dX0_fine_59 : decode cX0_fine 59 = .ok (.iconst 0, 1) := dk_3 (dk_at dksX0_fine_2 13 rfl rfl)
theorem dX0_fine_60 : decode cX0_fine 60 = .ok (.istore 6, 2) := dk_54 6 (dk_at dksX0_fine_2 14 rfl rfl)
theorem dX0_fine_62 : decode cX0_fine 62 = .ok (.iload 6, 2) := dk_21 6 (dk_at dksX0_fine_2 16 rfl rfl)
theorem dX0_fine_64 : decode cX0_fine 64 = .ok (.iload 4, 2) := dk_21 4 (dk_at dksX0_fine_2 18 rfl rfl)
theorem dX0_fine_66 : decode cX0_fine 66 = .ok (.if_icmp .ge 23, 3) := dk_162 0 23 (dk_at dksX0_fine_2 20 rfl rfl)
theorem dX0_fine_69 : decode cX0_fine 69 = .ok (.iload 5, 2) := dk_21 5 (dk_at dksX0_fine_3 0 rfl rfl)
theorem dX0_fine_71 : decode cX0_fine 71 = .ok (.iload_n 2, 1) := dk_28 (dk_at dksX0_fine_3 2 rfl rfl)
theorem dX0_fine_72 : decode cX0_fine 72 = .ok (.iload 5, 2) := dk_21 5 (dk_at dksX0_fine_3 3 rfl rfl)
theorem dX0_fine_74 : decode cX0_fine 74 = .ok (.isub, 1) := dk_100 (dk_at dksX0_fine_3 5 rfl rfl)
theorem dX0_fine_75 : decode cX0_fine 75 = .ok (.iload_n 3, 1) := dk_29 (dk_at dksX0_fine_3 6 rfl rfl)
theorem dX0_fine_76 : decode cX0_fine 76 = .ok (.imul, 1) := dk_104 (dk_at dksX0_fine_3 7 rfl rfl)
theorem dX0_fine_77 : decode cX0_fine 77 = .ok (.bipush 100, 2) := dk_16 100 (dk_at dksX0_fine_3 8 rfl rfl)
theorem dX0_fine_79 : decode cX0_fine 79 = .ok (.idiv, 1) := dk_108 (dk_at dksX0_fine_3 10 rfl rfl)
theorem dX0_fine_80 : decode cX0_fine 80 = .ok (.iadd, 1) := dk_96 (dk_at dksX0_fine_3 11 rfl rfl)
theorem dX0_fine_81 : decode cX0_fine 81 = .ok (.istore 5, 2) := dk_54 5 (dk_at dksX0_fine_3 12 rfl rfl)
theorem dX0_fine_83 : decode cX0_fine 83 = .ok (.iinc 6 1, 3) := dk_132 6 1 (dk_at dksX0_fine_3 14 rfl rfl)
theorem dX0_fine_86 : decode cX0_fine 86 = .ok (.goto (-24), 3) := dk_167 255 232 (dk_at dksX0_fine_3 17 rfl rfl)
theorem dX0_fine_89 : decode cX0_fine 89 = .ok (.iload 5, 2) := dk_21 5 (dk_at dksX0_fine_3 20 rfl rfl)
theorem dX0_fine_91 : decode cX0_fine 91 = .ok (.ireturn, 1) := dk_172 (dk_at dksX0_fine_3 22 rfl rfl)
abbrev cX0_until : ByteArray := prog_1_method_67_code
def yX0_until : MethodName := ⟨RX0, "until", "(IIII)I"⟩
def dkwX0_until_4 : List UInt8 := [16, 100, 108, 96, 54, 5, 132, 6, 1, 167, 255, 216, 2, 172]
abbrev dktX0_until_4 : List UInt8 := dkwX0_until_4 ++ []
def dkwX0_until_3 : List UInt8 := [28, 21, 5, 100, 184, 1, 129, 21, 4, 163, 0, 6, 21, 6, 172, 21, 5, 28, 21, 5, 100, 29, 104]
abbrev dktX0_until_3 : List UInt8 := dkwX0_until_3 ++ dktX0_until_4
def dkwX0_until_2 : List UInt8 := [154, 0, 10, 42, 16, 253, 182, 0, 73, 172, 27, 54, 5, 3, 54, 6, 21, 6, 17, 3, 232, 162, 0, 38]
abbrev dktX0_until_2 : List UInt8 := dkwX0_until_2 ++ dktX0_until_3
def dkwX0_until_1 : List UInt8 := [29, 133, 9, 20, 1, 7, 184, 0, 81, 153, 0, 16, 21, 4, 133, 9, 20, 1, 33, 184, 0, 81]
abbrev dktX0_until_1 : List UInt8 := dkwX0_until_1 ++ dktX0_until_2
def dkwX0_until_0 : List UInt8 := [27, 133, 9, 20, 1, 33, 184, 0, 81, 153, 0, 40, 28, 133, 9, 20, 1, 33, 184, 0, 81, 153, 0, 28]
abbrev dktX0_until_0 : List UInt8 := dkwX0_until_0 ++ dktX0_until_1
theorem dksX0_until_0 : cX0_until.data.toList.drop 0 = dktX0_until_0 := by decide +kernel
theorem dksX0_until_1 : cX0_until.data.toList.drop 24 = dktX0_until_1 := dk_seg dksX0_until_0 24 rfl rfl
theorem dksX0_until_2 : cX0_until.data.toList.drop 46 = dktX0_until_2 := dk_seg dksX0_until_1 22 rfl rfl
theorem dksX0_until_3 : cX0_until.data.toList.drop 70 = dktX0_until_3 := dk_seg dksX0_until_2 24 rfl rfl
theorem dksX0_until_4 : cX0_until.data.toList.drop 93 = dktX0_until_4 := dk_seg dksX0_until_3 23 rfl rfl
theorem dX0_until_0 : decode cX0_until 0 = .ok (.iload_n 1, 1) := dk_27 (dk_at dksX0_until_0 0 rfl rfl)
theorem dX0_until_1 : decode cX0_until 1 = .ok (.i2l, 1) := dk_133 (dk_at dksX0_until_0 1 rfl rfl)
theorem dX0_until_2 : decode cX0_until 2 = .ok (.lconst 0, 1) := dk_9 (dk_at dksX0_until_0 2 rfl rfl)
theorem dX0_until_3 : decode cX0_until 3 = .ok (.ldc2_w 289, 3) := dk_20 1 33 (dk_at dksX0_until_0 3 rfl rfl)
theorem dX0_until_6 : decode cX0_until 6 = .ok (.invokestatic 81, 3) := dk_184 0 81 (dk_at dksX0_until_0 6 rfl rfl)
theorem dX0_until_9 : decode cX0_until 9 = .ok (.ifCond .eq 40, 3) := dk_153 0 40 (dk_at dksX0_until_0 9 rfl rfl)
theorem dX0_until_12 : decode cX0_until 12 = .ok (.iload_n 2, 1) := dk_28 (dk_at dksX0_until_0 12 rfl rfl)
theorem dX0_until_13 : decode cX0_until 13 = .ok (.i2l, 1) := dk_133 (dk_at dksX0_until_0 13 rfl rfl)
theorem dX0_until_14 : decode cX0_until 14 = .ok (.lconst 0, 1) := dk_9 (dk_at dksX0_until_0 14 rfl rfl)
theorem dX0_until_15 : decode cX0_until 15 = .ok (.ldc2_w 289, 3) := dk_20 1 33 (dk_at dksX0_until_0 15 rfl rfl)
theorem dX0_until_18 : decode cX0_until 18 = .ok (.invokestatic 81, 3) := dk_184 0 81 (dk_at dksX0_until_0 18 rfl rfl)
theorem dX0_until_21 : decode cX0_until 21 = .ok (.ifCond .eq 28, 3) := dk_153 0 28 (dk_at dksX0_until_0 21 rfl rfl)
theorem dX0_until_24 : decode cX0_until 24 = .ok (.iload_n 3, 1) := dk_29 (dk_at dksX0_until_1 0 rfl rfl)
theorem dX0_until_25 : decode cX0_until 25 = .ok (.i2l, 1) := dk_133 (dk_at dksX0_until_1 1 rfl rfl)
theorem dX0_until_26 : decode cX0_until 26 = .ok (.lconst 0, 1) := dk_9 (dk_at dksX0_until_1 2 rfl rfl)
theorem dX0_until_27 : decode cX0_until 27 = .ok (.ldc2_w 263, 3) := dk_20 1 7 (dk_at dksX0_until_1 3 rfl rfl)
theorem dX0_until_30 : decode cX0_until 30 = .ok (.invokestatic 81, 3) := dk_184 0 81 (dk_at dksX0_until_1 6 rfl rfl)
theorem dX0_until_33 : decode cX0_until 33 = .ok (.ifCond .eq 16, 3) := dk_153 0 16 (dk_at dksX0_until_1 9 rfl rfl)
theorem dX0_until_36 : decode cX0_until 36 = .ok (.iload 4, 2) := dk_21 4 (dk_at dksX0_until_1 12 rfl rfl)
theorem dX0_until_38 : decode cX0_until 38 = .ok (.i2l, 1) := dk_133 (dk_at dksX0_until_1 14 rfl rfl)
theorem dX0_until_39 : decode cX0_until 39 = .ok (.lconst 0, 1) := dk_9 (dk_at dksX0_until_1 15 rfl rfl)
theorem dX0_until_40 : decode cX0_until 40 = .ok (.ldc2_w 289, 3) := dk_20 1 33 (dk_at dksX0_until_1 16 rfl rfl)
theorem dX0_until_43 : decode cX0_until 43 = .ok (.invokestatic 81, 3) := dk_184 0 81 (dk_at dksX0_until_1 19 rfl rfl)
theorem dX0_until_46 : decode cX0_until 46 = .ok (.ifCond .ne 10, 3) := dk_154 0 10 (dk_at dksX0_until_2 0 rfl rfl)
theorem dX0_until_49 : decode cX0_until 49 = .ok (.aload_n 0, 1) := dk_42 (dk_at dksX0_until_2 3 rfl rfl)
theorem dX0_until_50 : decode cX0_until 50 = .ok (.bipush (-3), 2) := dk_16 253 (dk_at dksX0_until_2 4 rfl rfl)
theorem dX0_until_52 : decode cX0_until 52 = .ok (.invokevirtual 73, 3) := dk_182 0 73 (dk_at dksX0_until_2 6 rfl rfl)
theorem dX0_until_55 : decode cX0_until 55 = .ok (.ireturn, 1) := dk_172 (dk_at dksX0_until_2 9 rfl rfl)
theorem dX0_until_56 : decode cX0_until 56 = .ok (.iload_n 1, 1) := dk_27 (dk_at dksX0_until_2 10 rfl rfl)
theorem dX0_until_57 : decode cX0_until 57 = .ok (.istore 5, 2) := dk_54 5 (dk_at dksX0_until_2 11 rfl rfl)
theorem dX0_until_59 : decode cX0_until 59 = .ok (.iconst 0, 1) := dk_3 (dk_at dksX0_until_2 13 rfl rfl)
theorem dX0_until_60 : decode cX0_until 60 = .ok (.istore 6, 2) := dk_54 6 (dk_at dksX0_until_2 14 rfl rfl)
theorem dX0_until_62 : decode cX0_until 62 = .ok (.iload 6, 2) := dk_21 6 (dk_at dksX0_until_2 16 rfl rfl)
theorem dX0_until_64 : decode cX0_until 64 = .ok (.sipush 1000, 3) := dk_17 3 232 (dk_at dksX0_until_2 18 rfl rfl)
theorem dX0_until_67 : decode cX0_until 67 = .ok (.if_icmp .ge 38, 3) := dk_162 0 38 (dk_at dksX0_until_2 21 rfl rfl)
theorem dX0_until_70 : decode cX0_until 70 = .ok (.iload_n 2, 1) := dk_28 (dk_at dksX0_until_3 0 rfl rfl)
theorem dX0_until_71 : decode cX0_until 71 = .ok (.iload 5, 2) := dk_21 5 (dk_at dksX0_until_3 1 rfl rfl)
theorem dX0_until_73 : decode cX0_until 73 = .ok (.isub, 1) := dk_100 (dk_at dksX0_until_3 3 rfl rfl)
theorem dX0_until_74 : decode cX0_until 74 = .ok (.invokestatic 385, 3) := dk_184 1 129 (dk_at dksX0_until_3 4 rfl rfl)
theorem dX0_until_77 : decode cX0_until 77 = .ok (.iload 4, 2) := dk_21 4 (dk_at dksX0_until_3 7 rfl rfl)
theorem dX0_until_79 : decode cX0_until 79 = .ok (.if_icmp .gt 6, 3) := dk_163 0 6 (dk_at dksX0_until_3 9 rfl rfl)
theorem dX0_until_82 : decode cX0_until 82 = .ok (.iload 6, 2) := dk_21 6 (dk_at dksX0_until_3 12 rfl rfl)
theorem dX0_until_84 : decode cX0_until 84 = .ok (.ireturn, 1) := dk_172 (dk_at dksX0_until_3 14 rfl rfl)
theorem dX0_until_85 : decode cX0_until 85 = .ok (.iload 5, 2) := dk_21 5 (dk_at dksX0_until_3 15 rfl rfl)
theorem dX0_until_87 : decode cX0_until 87 = .ok (.iload_n 2, 1) := dk_28 (dk_at dksX0_until_3 17 rfl rfl)
theorem dX0_until_88 : decode cX0_until 88 = .ok (.iload 5, 2) := dk_21 5 (dk_at dksX0_until_3 18 rfl rfl)
theorem dX0_until_90 : decode cX0_until 90 = .ok (.isub, 1) := dk_100 (dk_at dksX0_until_3 20 rfl rfl)
theorem dX0_until_91 : decode cX0_until 91 = .ok (.iload_n 3, 1) := dk_29 (dk_at dksX0_until_3 21 rfl rfl)
theorem dX0_until_92 : decode cX0_until 92 = .ok (.imul, 1) := dk_104 (dk_at dksX0_until_3 22 rfl rfl)
theorem dX0_until_93 : decode cX0_until 93 = .ok (.bipush 100, 2) := dk_16 100 (dk_at dksX0_until_4 0 rfl rfl)
theorem dX0_until_95 : decode cX0_until 95 = .ok (.idiv, 1) := dk_108 (dk_at dksX0_until_4 2 rfl rfl)
theorem dX0_until_96 : decode cX0_until 96 = .ok (.iadd, 1) := dk_96 (dk_at dksX0_until_4 3 rfl rfl)
theorem dX0_until_97 : decode cX0_until 97 = .ok (.istore 5, 2) := dk_54 5 (dk_at dksX0_until_4 4 rfl rfl)
theorem dX0_until_99 : decode cX0_until 99 = .ok (.iinc 6 1, 3) := dk_132 6 1 (dk_at dksX0_until_4 6 rfl rfl)
theorem dX0_until_102 : decode cX0_until 102 = .ok (.goto (-40), 3) := dk_167 255 216 (dk_at dksX0_until_4 9 rfl rfl)
theorem dX0_until_105 : decode cX0_until 105 = .ok (.iconst (-1), 1) := dk_2 (dk_at dksX0_until_4 12 rfl rfl)
theorem dX0_until_106 : decode cX0_until 106 = .ok (.ireturn, 1) := dk_172 (dk_at dksX0_until_4 13 rfl rfl)
abbrev cX0_lot : ByteArray := prog_1_method_69_code
def yX0_lot : MethodName := ⟨RX0, "lot", "(II)I"⟩
def dkwX0_lot_3 : List UInt8 := [167, 255, 219, 2, 172]
abbrev dktX0_lot_3 : List UInt8 := dkwX0_lot_3 ++ []
def dkwX0_lot_2 : List UInt8 := [28, 100, 133, 105, 27, 184, 1, 177, 28, 184, 1, 177, 97, 148, 155, 0, 5, 29, 172, 132, 3, 1]
abbrev dktX0_lot_2 : List UInt8 := dkwX0_lot_2 ++ dktX0_lot_3
def dkwX0_lot_1 : List UInt8 := [42, 16, 253, 182, 0, 73, 172, 4, 62, 29, 17, 39, 15, 163, 0, 36, 29, 133, 27, 28, 100, 133, 105, 27]
abbrev dktX0_lot_1 : List UInt8 := dkwX0_lot_1 ++ dktX0_lot_2
def dkwX0_lot_0 : List UInt8 := [27, 133, 9, 20, 1, 33, 184, 0, 81, 153, 0, 15, 28, 133, 9, 20, 1, 33, 184, 0, 81, 154, 0, 10]
abbrev dktX0_lot_0 : List UInt8 := dkwX0_lot_0 ++ dktX0_lot_1
theorem dksX0_lot_0 : cX0_lot.data.toList.drop 0 = dktX0_lot_0 := by decide +kernel
theorem dksX0_lot_1 : cX0_lot.data.toList.drop 24 = dktX0_lot_1 := dk_seg dksX0_lot_0 24 rfl rfl
theorem dksX0_lot_2 : cX0_lot.data.toList.drop 48 = dktX0_lot_2 := dk_seg dksX0_lot_1 24 rfl rfl
theorem dksX0_lot_3 : cX0_lot.data.toList.drop 70 = dktX0_lot_3 := dk_seg dksX0_lot_2 22 rfl rfl
theorem dX0_lot_0 : decode cX0_lot 0 = .ok (.iload_n 1, 1) := dk_27 (dk_at dksX0_lot_0 0 rfl rfl)
theorem dX0_lot_1 : decode cX0_lot 1 = .ok (.i2l, 1) := dk_133 (dk_at dksX0_lot_0 1 rfl rfl)
theorem dX0_lot_2 : decode cX0_lot 2 = .ok (.lconst 0, 1) := dk_9 (dk_at dksX0_lot_0 2 rfl rfl)
theorem dX0_lot_3 : decode cX0_lot 3 = .ok (.ldc2_w 289, 3) := dk_20 1 33 (dk_at dksX0_lot_0 3 rfl rfl)
theorem dX0_lot_6 : decode cX0_lot 6 = .ok (.invokestatic 81, 3) := dk_184 0 81 (dk_at dksX0_lot_0 6 rfl rfl)
theorem dX0_lot_9 : decode cX0_lot 9 = .ok (.ifCond .eq 15, 3) := dk_153 0 15 (dk_at dksX0_lot_0 9 rfl rfl)
theorem dX0_lot_12 : decode cX0_lot 12 = .ok (.iload_n 2, 1) := dk_28 (dk_at dksX0_lot_0 12 rfl rfl)
theorem dX0_lot_13 : decode cX0_lot 13 = .ok (.i2l, 1) := dk_133 (dk_at dksX0_lot_0 13 rfl rfl)
theorem dX0_lot_14 : decode cX0_lot 14 = .ok (.lconst 0, 1) := dk_9 (dk_at dksX0_lot_0 14 rfl rfl)
theorem dX0_lot_15 : decode cX0_lot 15 = .ok (.ldc2_w 289, 3) := dk_20 1 33 (dk_at dksX0_lot_0 15 rfl rfl)
theorem dX0_lot_18 : decode cX0_lot 18 = .ok (.invokestatic 81, 3) := dk_184 0 81 (dk_at dksX0_lot_0 18 rfl rfl)
theorem dX0_lot_21 : decode cX0_lot 21 = .ok (.ifCond .ne 10, 3) := dk_154 0 10 (dk_at dksX0_lot_0 21 rfl rfl)
theorem dX0_lot_24 : decode cX0_lot 24 = .ok (.aload_n 0, 1) := dk_42 (dk_at dksX0_lot_1 0 rfl rfl)
theorem dX0_lot_25 : decode cX0_lot 25 = .ok (.bipush (-3), 2) := dk_16 253 (dk_at dksX0_lot_1 1 rfl rfl)
theorem dX0_lot_27 : decode cX0_lot 27 = .ok (.invokevirtual 73, 3) := dk_182 0 73 (dk_at dksX0_lot_1 3 rfl rfl)
theorem dX0_lot_30 : decode cX0_lot 30 = .ok (.ireturn, 1) := dk_172 (dk_at dksX0_lot_1 6 rfl rfl)
theorem dX0_lot_31 : decode cX0_lot 31 = .ok (.iconst 1, 1) := dk_4 (dk_at dksX0_lot_1 7 rfl rfl)
theorem dX0_lot_32 : decode cX0_lot 32 = .ok (.istore_n 3, 1) := dk_62 (dk_at dksX0_lot_1 8 rfl rfl)
theorem dX0_lot_33 : decode cX0_lot 33 = .ok (.iload_n 3, 1) := dk_29 (dk_at dksX0_lot_1 9 rfl rfl)
theorem dX0_lot_34 : decode cX0_lot 34 = .ok (.sipush 9999, 3) := dk_17 39 15 (dk_at dksX0_lot_1 10 rfl rfl)
theorem dX0_lot_37 : decode cX0_lot 37 = .ok (.if_icmp .gt 36, 3) := dk_163 0 36 (dk_at dksX0_lot_1 13 rfl rfl)
theorem dX0_lot_40 : decode cX0_lot 40 = .ok (.iload_n 3, 1) := dk_29 (dk_at dksX0_lot_1 16 rfl rfl)
theorem dX0_lot_41 : decode cX0_lot 41 = .ok (.i2l, 1) := dk_133 (dk_at dksX0_lot_1 17 rfl rfl)
theorem dX0_lot_42 : decode cX0_lot 42 = .ok (.iload_n 1, 1) := dk_27 (dk_at dksX0_lot_1 18 rfl rfl)
theorem dX0_lot_43 : decode cX0_lot 43 = .ok (.iload_n 2, 1) := dk_28 (dk_at dksX0_lot_1 19 rfl rfl)
theorem dX0_lot_44 : decode cX0_lot 44 = .ok (.isub, 1) := dk_100 (dk_at dksX0_lot_1 20 rfl rfl)
theorem dX0_lot_45 : decode cX0_lot 45 = .ok (.i2l, 1) := dk_133 (dk_at dksX0_lot_1 21 rfl rfl)
theorem dX0_lot_46 : decode cX0_lot 46 = .ok (.lmul, 1) := dk_105 (dk_at dksX0_lot_1 22 rfl rfl)
theorem dX0_lot_47 : decode cX0_lot 47 = .ok (.iload_n 1, 1) := dk_27 (dk_at dksX0_lot_1 23 rfl rfl)
theorem dX0_lot_48 : decode cX0_lot 48 = .ok (.iload_n 2, 1) := dk_28 (dk_at dksX0_lot_2 0 rfl rfl)
theorem dX0_lot_49 : decode cX0_lot 49 = .ok (.isub, 1) := dk_100 (dk_at dksX0_lot_2 1 rfl rfl)
theorem dX0_lot_50 : decode cX0_lot 50 = .ok (.i2l, 1) := dk_133 (dk_at dksX0_lot_2 2 rfl rfl)
theorem dX0_lot_51 : decode cX0_lot 51 = .ok (.lmul, 1) := dk_105 (dk_at dksX0_lot_2 3 rfl rfl)
theorem dX0_lot_52 : decode cX0_lot 52 = .ok (.iload_n 1, 1) := dk_27 (dk_at dksX0_lot_2 4 rfl rfl)
theorem dX0_lot_53 : decode cX0_lot 53 = .ok (.invokestatic 433, 3) := dk_184 1 177 (dk_at dksX0_lot_2 5 rfl rfl)
theorem dX0_lot_56 : decode cX0_lot 56 = .ok (.iload_n 2, 1) := dk_28 (dk_at dksX0_lot_2 8 rfl rfl)
theorem dX0_lot_57 : decode cX0_lot 57 = .ok (.invokestatic 433, 3) := dk_184 1 177 (dk_at dksX0_lot_2 9 rfl rfl)
theorem dX0_lot_60 : decode cX0_lot 60 = .ok (.ladd, 1) := dk_97 (dk_at dksX0_lot_2 12 rfl rfl)
theorem dX0_lot_61 : decode cX0_lot 61 = .ok (.lcmp, 1) := dk_148 (dk_at dksX0_lot_2 13 rfl rfl)
theorem dX0_lot_62 : decode cX0_lot 62 = .ok (.ifCond .lt 5, 3) := dk_155 0 5 (dk_at dksX0_lot_2 14 rfl rfl)
theorem dX0_lot_65 : decode cX0_lot 65 = .ok (.iload_n 3, 1) := dk_29 (dk_at dksX0_lot_2 17 rfl rfl)
theorem dX0_lot_66 : decode cX0_lot 66 = .ok (.ireturn, 1) := dk_172 (dk_at dksX0_lot_2 18 rfl rfl)
theorem dX0_lot_67 : decode cX0_lot 67 = .ok (.iinc 3 1, 3) := dk_132 3 1 (dk_at dksX0_lot_2 19 rfl rfl)
theorem dX0_lot_70 : decode cX0_lot 70 = .ok (.goto (-37), 3) := dk_167 255 219 (dk_at dksX0_lot_3 0 rfl rfl)
theorem dX0_lot_73 : decode cX0_lot 73 = .ok (.iconst (-1), 1) := dk_2 (dk_at dksX0_lot_3 3 rfl rfl)
theorem dX0_lot_74 : decode cX0_lot 74 = .ok (.ireturn, 1) := dk_172 (dk_at dksX0_lot_3 4 rfl rfl)
abbrev cX0_spread : ByteArray := prog_1_method_68_code
def yX0_spread : MethodName := ⟨RX0, "spread", "(I)J"⟩
def dkwX0_spread_0 : List UInt8 := [20, 1, 175, 26, 133, 105, 17, 3, 232, 26, 100, 133, 105, 173]
abbrev dktX0_spread_0 : List UInt8 := dkwX0_spread_0 ++ []
theorem dksX0_spread_0 : cX0_spread.data.toList.drop 0 = dktX0_spread_0 := by decide +kernel
theorem dX0_spread_0 : decode cX0_spread 0 = .ok (.ldc2_w 431, 3) := dk_20 1 175 (dk_at dksX0_spread_0 0 rfl rfl)
theorem dX0_spread_3 : decode cX0_spread 3 = .ok (.iload_n 0, 1) := dk_26 (dk_at dksX0_spread_0 3 rfl rfl)
theorem dX0_spread_4 : decode cX0_spread 4 = .ok (.i2l, 1) := dk_133 (dk_at dksX0_spread_0 4 rfl rfl)
theorem dX0_spread_5 : decode cX0_spread 5 = .ok (.lmul, 1) := dk_105 (dk_at dksX0_spread_0 5 rfl rfl)
theorem dX0_spread_6 : decode cX0_spread 6 = .ok (.sipush 1000, 3) := dk_17 3 232 (dk_at dksX0_spread_0 6 rfl rfl)
theorem dX0_spread_9 : decode cX0_spread 9 = .ok (.iload_n 0, 1) := dk_26 (dk_at dksX0_spread_0 9 rfl rfl)
theorem dX0_spread_10 : decode cX0_spread 10 = .ok (.isub, 1) := dk_100 (dk_at dksX0_spread_0 10 rfl rfl)
theorem dX0_spread_11 : decode cX0_spread 11 = .ok (.i2l, 1) := dk_133 (dk_at dksX0_spread_0 11 rfl rfl)
theorem dX0_spread_12 : decode cX0_spread 12 = .ok (.lmul, 1) := dk_105 (dk_at dksX0_spread_0 12 rfl rfl)
theorem dX0_spread_13 : decode cX0_spread 13 = .ok (.lreturn, 1) := dk_173 (dk_at dksX0_spread_0 13 rfl rfl)
abbrev cX0_shown : ByteArray := prog_1_method_71_code
def yX0_shown : MethodName := ⟨RX0, "shown", "(IIII)I"⟩
def dkwX0_shown_5 : List UInt8 := [21, 4, 133, 105, 22, 7, 148, 155, 0, 7, 4, 167, 0, 4, 3, 172]
abbrev dktX0_shown_5 : List UInt8 := dkwX0_shown_5 ++ []
def dkwX0_shown_4 : List UInt8 := [133, 184, 1, 180, 105, 97, 105, 55, 7, 22, 5, 9, 148, 153, 0, 25, 22, 5, 22, 5, 105, 28, 133, 105]
abbrev dktX0_shown_4 : List UInt8 := dkwX0_shown_4 ++ dktX0_shown_5
def dkwX0_shown_3 : List UInt8 := [20, 1, 175, 27, 28, 27, 100, 104, 133, 21, 4, 133, 184, 1, 180, 105, 29, 21, 4, 29, 100, 104, 133, 28]
abbrev dktX0_shown_3 : List UInt8 := dkwX0_shown_3 ++ dktX0_shown_4
def dkwX0_shown_2 : List UInt8 := [154, 0, 10, 42, 16, 253, 182, 0, 73, 172, 27, 133, 21, 4, 133, 105, 29, 133, 28, 133, 105, 101, 55, 5]
abbrev dktX0_shown_2 : List UInt8 := dkwX0_shown_2 ++ dktX0_shown_3
def dkwX0_shown_1 : List UInt8 := [153, 0, 26, 27, 133, 9, 28, 133, 184, 0, 81, 153, 0, 15, 29, 133, 9, 21, 4, 133, 184, 0, 81]
abbrev dktX0_shown_1 : List UInt8 := dkwX0_shown_1 ++ dktX0_shown_2
def dkwX0_shown_0 : List UInt8 := [28, 133, 10, 20, 1, 75, 184, 0, 81, 153, 0, 39, 21, 4, 133, 10, 20, 1, 75, 184, 0, 81]
abbrev dktX0_shown_0 : List UInt8 := dkwX0_shown_0 ++ dktX0_shown_1
theorem dksX0_shown_0 : cX0_shown.data.toList.drop 0 = dktX0_shown_0 := by decide +kernel
theorem dksX0_shown_1 : cX0_shown.data.toList.drop 22 = dktX0_shown_1 := dk_seg dksX0_shown_0 22 rfl rfl
theorem dksX0_shown_2 : cX0_shown.data.toList.drop 45 = dktX0_shown_2 := dk_seg dksX0_shown_1 23 rfl rfl
theorem dksX0_shown_3 : cX0_shown.data.toList.drop 69 = dktX0_shown_3 := dk_seg dksX0_shown_2 24 rfl rfl
theorem dksX0_shown_4 : cX0_shown.data.toList.drop 93 = dktX0_shown_4 := dk_seg dksX0_shown_3 24 rfl rfl
theorem dksX0_shown_5 : cX0_shown.data.toList.drop 117 = dktX0_shown_5 := dk_seg dksX0_shown_4 24 rfl rfl
theorem dX0_shown_0 : decode cX0_shown 0 = .ok (.iload_n 2, 1) := dk_28 (dk_at dksX0_shown_0 0 rfl rfl)
theorem dX0_shown_1 : decode cX0_shown 1 = .ok (.i2l, 1) := dk_133 (dk_at dksX0_shown_0 1 rfl rfl)
theorem dX0_shown_2 : decode cX0_shown 2 = .ok (.lconst 1, 1) := dk_10 (dk_at dksX0_shown_0 2 rfl rfl)
theorem dX0_shown_3 : decode cX0_shown 3 = .ok (.ldc2_w 331, 3) := dk_20 1 75 (dk_at dksX0_shown_0 3 rfl rfl)
theorem dX0_shown_6 : decode cX0_shown 6 = .ok (.invokestatic 81, 3) := dk_184 0 81 (dk_at dksX0_shown_0 6 rfl rfl)
theorem dX0_shown_9 : decode cX0_shown 9 = .ok (.ifCond .eq 39, 3) := dk_153 0 39 (dk_at dksX0_shown_0 9 rfl rfl)
theorem dX0_shown_12 : decode cX0_shown 12 = .ok (.iload 4, 2) := dk_21 4 (dk_at dksX0_shown_0 12 rfl rfl)
theorem dX0_shown_14 : decode cX0_shown 14 = .ok (.i2l, 1) := dk_133 (dk_at dksX0_shown_0 14 rfl rfl)
theorem dX0_shown_15 : decode cX0_shown 15 = .ok (.lconst 1, 1) := dk_10 (dk_at dksX0_shown_0 15 rfl rfl)
theorem dX0_shown_16 : decode cX0_shown 16 = .ok (.ldc2_w 331, 3) := dk_20 1 75 (dk_at dksX0_shown_0 16 rfl rfl)
theorem dX0_shown_19 : decode cX0_shown 19 = .ok (.invokestatic 81, 3) := dk_184 0 81 (dk_at dksX0_shown_0 19 rfl rfl)
theorem dX0_shown_22 : decode cX0_shown 22 = .ok (.ifCond .eq 26, 3) := dk_153 0 26 (dk_at dksX0_shown_1 0 rfl rfl)
theorem dX0_shown_25 : decode cX0_shown 25 = .ok (.iload_n 1, 1) := dk_27 (dk_at dksX0_shown_1 3 rfl rfl)
theorem dX0_shown_26 : decode cX0_shown 26 = .ok (.i2l, 1) := dk_133 (dk_at dksX0_shown_1 4 rfl rfl)
theorem dX0_shown_27 : decode cX0_shown 27 = .ok (.lconst 0, 1) := dk_9 (dk_at dksX0_shown_1 5 rfl rfl)
theorem dX0_shown_28 : decode cX0_shown 28 = .ok (.iload_n 2, 1) := dk_28 (dk_at dksX0_shown_1 6 rfl rfl)
theorem dX0_shown_29 : decode cX0_shown 29 = .ok (.i2l, 1) := dk_133 (dk_at dksX0_shown_1 7 rfl rfl)
theorem dX0_shown_30 : decode cX0_shown 30 = .ok (.invokestatic 81, 3) := dk_184 0 81 (dk_at dksX0_shown_1 8 rfl rfl)
theorem dX0_shown_33 : decode cX0_shown 33 = .ok (.ifCond .eq 15, 3) := dk_153 0 15 (dk_at dksX0_shown_1 11 rfl rfl)
theorem dX0_shown_36 : decode cX0_shown 36 = .ok (.iload_n 3, 1) := dk_29 (dk_at dksX0_shown_1 14 rfl rfl)
theorem dX0_shown_37 : decode cX0_shown 37 = .ok (.i2l, 1) := dk_133 (dk_at dksX0_shown_1 15 rfl rfl)
theorem dX0_shown_38 : decode cX0_shown 38 = .ok (.lconst 0, 1) := dk_9 (dk_at dksX0_shown_1 16 rfl rfl)
theorem dX0_shown_39 : decode cX0_shown 39 = .ok (.iload 4, 2) := dk_21 4 (dk_at dksX0_shown_1 17 rfl rfl)
theorem dX0_shown_41 : decode cX0_shown 41 = .ok (.i2l, 1) := dk_133 (dk_at dksX0_shown_1 19 rfl rfl)
theorem dX0_shown_42 : decode cX0_shown 42 = .ok (.invokestatic 81, 3) := dk_184 0 81 (dk_at dksX0_shown_1 20 rfl rfl)
theorem dX0_shown_45 : decode cX0_shown 45 = .ok (.ifCond .ne 10, 3) := dk_154 0 10 (dk_at dksX0_shown_2 0 rfl rfl)
theorem dX0_shown_48 : decode cX0_shown 48 = .ok (.aload_n 0, 1) := dk_42 (dk_at dksX0_shown_2 3 rfl rfl)
theorem dX0_shown_49 : decode cX0_shown 49 = .ok (.bipush (-3), 2) := dk_16 253 (dk_at dksX0_shown_2 4 rfl rfl)
theorem dX0_shown_51 : decode cX0_shown 51 = .ok (.invokevirtual 73, 3) := dk_182 0 73 (dk_at dksX0_shown_2 6 rfl rfl)
theorem dX0_shown_54 : decode cX0_shown 54 = .ok (.ireturn, 1) := dk_172 (dk_at dksX0_shown_2 9 rfl rfl)
theorem dX0_shown_55 : decode cX0_shown 55 = .ok (.iload_n 1, 1) := dk_27 (dk_at dksX0_shown_2 10 rfl rfl)
theorem dX0_shown_56 : decode cX0_shown 56 = .ok (.i2l, 1) := dk_133 (dk_at dksX0_shown_2 11 rfl rfl)
theorem dX0_shown_57 : decode cX0_shown 57 = .ok (.iload 4, 2) := dk_21 4 (dk_at dksX0_shown_2 12 rfl rfl)
theorem dX0_shown_59 : decode cX0_shown 59 = .ok (.i2l, 1) := dk_133 (dk_at dksX0_shown_2 14 rfl rfl)
theorem dX0_shown_60 : decode cX0_shown 60 = .ok (.lmul, 1) := dk_105 (dk_at dksX0_shown_2 15 rfl rfl)
theorem dX0_shown_61 : decode cX0_shown 61 = .ok (.iload_n 3, 1) := dk_29 (dk_at dksX0_shown_2 16 rfl rfl)
theorem dX0_shown_62 : decode cX0_shown 62 = .ok (.i2l, 1) := dk_133 (dk_at dksX0_shown_2 17 rfl rfl)
theorem dX0_shown_63 : decode cX0_shown 63 = .ok (.iload_n 2, 1) := dk_28 (dk_at dksX0_shown_2 18 rfl rfl)
theorem dX0_shown_64 : decode cX0_shown 64 = .ok (.i2l, 1) := dk_133 (dk_at dksX0_shown_2 19 rfl rfl)
theorem dX0_shown_65 : decode cX0_shown 65 = .ok (.lmul, 1) := dk_105 (dk_at dksX0_shown_2 20 rfl rfl)
theorem dX0_shown_66 : decode cX0_shown 66 = .ok (.lsub, 1) := dk_101 (dk_at dksX0_shown_2 21 rfl rfl)
theorem dX0_shown_67 : decode cX0_shown 67 = .ok (.lstore 5, 2) := dk_55 5 (dk_at dksX0_shown_2 22 rfl rfl)
theorem dX0_shown_69 : decode cX0_shown 69 = .ok (.ldc2_w 431, 3) := dk_20 1 175 (dk_at dksX0_shown_3 0 rfl rfl)
theorem dX0_shown_72 : decode cX0_shown 72 = .ok (.iload_n 1, 1) := dk_27 (dk_at dksX0_shown_3 3 rfl rfl)
theorem dX0_shown_73 : decode cX0_shown 73 = .ok (.iload_n 2, 1) := dk_28 (dk_at dksX0_shown_3 4 rfl rfl)
theorem dX0_shown_74 : decode cX0_shown 74 = .ok (.iload_n 1, 1) := dk_27 (dk_at dksX0_shown_3 5 rfl rfl)
theorem dX0_shown_75 : decode cX0_shown 75 = .ok (.isub, 1) := dk_100 (dk_at dksX0_shown_3 6 rfl rfl)
theorem dX0_shown_76 : decode cX0_shown 76 = .ok (.imul, 1) := dk_104 (dk_at dksX0_shown_3 7 rfl rfl)
theorem dX0_shown_77 : decode cX0_shown 77 = .ok (.i2l, 1) := dk_133 (dk_at dksX0_shown_3 8 rfl rfl)
theorem dX0_shown_78 : decode cX0_shown 78 = .ok (.iload 4, 2) := dk_21 4 (dk_at dksX0_shown_3 9 rfl rfl)
theorem dX0_shown_80 : decode cX0_shown 80 = .ok (.i2l, 1) := dk_133 (dk_at dksX0_shown_3 11 rfl rfl)
theorem dX0_shown_81 : decode cX0_shown 81 = .ok (.invokestatic 436, 3) := dk_184 1 180 (dk_at dksX0_shown_3 12 rfl rfl)
theorem dX0_shown_84 : decode cX0_shown 84 = .ok (.lmul, 1) := dk_105 (dk_at dksX0_shown_3 15 rfl rfl)
theorem dX0_shown_85 : decode cX0_shown 85 = .ok (.iload_n 3, 1) := dk_29 (dk_at dksX0_shown_3 16 rfl rfl)
theorem dX0_shown_86 : decode cX0_shown 86 = .ok (.iload 4, 2) := dk_21 4 (dk_at dksX0_shown_3 17 rfl rfl)
theorem dX0_shown_88 : decode cX0_shown 88 = .ok (.iload_n 3, 1) := dk_29 (dk_at dksX0_shown_3 19 rfl rfl)
theorem dX0_shown_89 : decode cX0_shown 89 = .ok (.isub, 1) := dk_100 (dk_at dksX0_shown_3 20 rfl rfl)
theorem dX0_shown_90 : decode cX0_shown 90 = .ok (.imul, 1) := dk_104 (dk_at dksX0_shown_3 21 rfl rfl)
theorem dX0_shown_91 : decode cX0_shown 91 = .ok (.i2l, 1) := dk_133 (dk_at dksX0_shown_3 22 rfl rfl)
theorem dX0_shown_92 : decode cX0_shown 92 = .ok (.iload_n 2, 1) := dk_28 (dk_at dksX0_shown_3 23 rfl rfl)
theorem dX0_shown_93 : decode cX0_shown 93 = .ok (.i2l, 1) := dk_133 (dk_at dksX0_shown_4 0 rfl rfl)
theorem dX0_shown_94 : decode cX0_shown 94 = .ok (.invokestatic 436, 3) := dk_184 1 180 (dk_at dksX0_shown_4 1 rfl rfl)
theorem dX0_shown_97 : decode cX0_shown 97 = .ok (.lmul, 1) := dk_105 (dk_at dksX0_shown_4 4 rfl rfl)
theorem dX0_shown_98 : decode cX0_shown 98 = .ok (.ladd, 1) := dk_97 (dk_at dksX0_shown_4 5 rfl rfl)
theorem dX0_shown_99 : decode cX0_shown 99 = .ok (.lmul, 1) := dk_105 (dk_at dksX0_shown_4 6 rfl rfl)
theorem dX0_shown_100 : decode cX0_shown 100 = .ok (.lstore 7, 2) := dk_55 7 (dk_at dksX0_shown_4 7 rfl rfl)
theorem dX0_shown_102 : decode cX0_shown 102 = .ok (.lload 5, 2) := dk_22 5 (dk_at dksX0_shown_4 9 rfl rfl)
theorem dX0_shown_104 : decode cX0_shown 104 = .ok (.lconst 0, 1) := dk_9 (dk_at dksX0_shown_4 11 rfl rfl)
theorem dX0_shown_105 : decode cX0_shown 105 = .ok (.lcmp, 1) := dk_148 (dk_at dksX0_shown_4 12 rfl rfl)
theorem dX0_shown_106 : decode cX0_shown 106 = .ok (.ifCond .eq 25, 3) := dk_153 0 25 (dk_at dksX0_shown_4 13 rfl rfl)
theorem dX0_shown_109 : decode cX0_shown 109 = .ok (.lload 5, 2) := dk_22 5 (dk_at dksX0_shown_4 16 rfl rfl)
theorem dX0_shown_111 : decode cX0_shown 111 = .ok (.lload 5, 2) := dk_22 5 (dk_at dksX0_shown_4 18 rfl rfl)
theorem dX0_shown_113 : decode cX0_shown 113 = .ok (.lmul, 1) := dk_105 (dk_at dksX0_shown_4 20 rfl rfl)
theorem dX0_shown_114 : decode cX0_shown 114 = .ok (.iload_n 2, 1) := dk_28 (dk_at dksX0_shown_4 21 rfl rfl)
theorem dX0_shown_115 : decode cX0_shown 115 = .ok (.i2l, 1) := dk_133 (dk_at dksX0_shown_4 22 rfl rfl)
theorem dX0_shown_116 : decode cX0_shown 116 = .ok (.lmul, 1) := dk_105 (dk_at dksX0_shown_4 23 rfl rfl)
theorem dX0_shown_117 : decode cX0_shown 117 = .ok (.iload 4, 2) := dk_21 4 (dk_at dksX0_shown_5 0 rfl rfl)
theorem dX0_shown_119 : decode cX0_shown 119 = .ok (.i2l, 1) := dk_133 (dk_at dksX0_shown_5 2 rfl rfl)
theorem dX0_shown_120 : decode cX0_shown 120 = .ok (.lmul, 1) := dk_105 (dk_at dksX0_shown_5 3 rfl rfl)
theorem dX0_shown_121 : decode cX0_shown 121 = .ok (.lload 7, 2) := dk_22 7 (dk_at dksX0_shown_5 4 rfl rfl)
theorem dX0_shown_123 : decode cX0_shown 123 = .ok (.lcmp, 1) := dk_148 (dk_at dksX0_shown_5 6 rfl rfl)
theorem dX0_shown_124 : decode cX0_shown 124 = .ok (.ifCond .lt 7, 3) := dk_155 0 7 (dk_at dksX0_shown_5 7 rfl rfl)
theorem dX0_shown_127 : decode cX0_shown 127 = .ok (.iconst 1, 1) := dk_4 (dk_at dksX0_shown_5 10 rfl rfl)
theorem dX0_shown_128 : decode cX0_shown 128 = .ok (.goto 4, 3) := dk_167 0 4 (dk_at dksX0_shown_5 11 rfl rfl)
theorem dX0_shown_131 : decode cX0_shown 131 = .ok (.iconst 0, 1) := dk_3 (dk_at dksX0_shown_5 14 rfl rfl)
theorem dX0_shown_132 : decode cX0_shown 132 = .ok (.ireturn, 1) := dk_172 (dk_at dksX0_shown_5 15 rfl rfl)
abbrev cX0_cube : ByteArray := prog_1_method_70_code
def yX0_cube : MethodName := ⟨RX0, "cube", "(J)J"⟩
def dkwX0_cube_0 : List UInt8 := [30, 30, 105, 30, 105, 173]
abbrev dktX0_cube_0 : List UInt8 := dkwX0_cube_0 ++ []
theorem dksX0_cube_0 : cX0_cube.data.toList.drop 0 = dktX0_cube_0 := by decide +kernel
theorem dX0_cube_0 : decode cX0_cube 0 = .ok (.lload_n 0, 1) := dk_30 (dk_at dksX0_cube_0 0 rfl rfl)
theorem dX0_cube_1 : decode cX0_cube 1 = .ok (.lload_n 0, 1) := dk_30 (dk_at dksX0_cube_0 1 rfl rfl)
theorem dX0_cube_2 : decode cX0_cube 2 = .ok (.lmul, 1) := dk_105 (dk_at dksX0_cube_0 2 rfl rfl)
theorem dX0_cube_3 : decode cX0_cube 3 = .ok (.lload_n 0, 1) := dk_30 (dk_at dksX0_cube_0 3 rfl rfl)
theorem dX0_cube_4 : decode cX0_cube 4 = .ok (.lmul, 1) := dk_105 (dk_at dksX0_cube_0 4 rfl rfl)
theorem dX0_cube_5 : decode cX0_cube 5 = .ok (.lreturn, 1) := dk_173 (dk_at dksX0_cube_0 5 rfl rfl)
abbrev cX0_clumps : ByteArray := prog_1_method_72_code
def yX0_clumps : MethodName := ⟨RX0, "clumps", "(IIII)I"⟩
def dkwX0_clumps_15 : List UInt8 := [160, 0, 8, 21, 7, 167, 0, 5, 21, 6, 172]
abbrev dktX0_clumps_15 : List UInt8 := dkwX0_clumps_15 ++ []
def dkwX0_clumps_14 : List UInt8 := [184, 1, 145, 54, 7, 132, 8, 1, 167, 255, 123, 21, 4, 154, 0, 8, 21, 5, 167, 0, 16, 21, 4, 4]
abbrev dktX0_clumps_14 : List UInt8 := dkwX0_clumps_14 ++ dktX0_clumps_15
def dkwX0_clumps_13 : List UInt8 := [167, 255, 176, 21, 6, 21, 10, 153, 0, 7, 4, 167, 0, 4, 3, 96, 54, 6, 21, 7, 21, 9]
abbrev dktX0_clumps_13 : List UInt8 := dkwX0_clumps_13 ++ dktX0_clumps_14
def dkwX0_clumps_12 : List UInt8 := [21, 11, 46, 42, 180, 0, 60, 21, 8, 46, 159, 0, 7, 4, 167, 0, 4, 3, 54, 10, 132, 11, 1]
abbrev dktX0_clumps_12 : List UInt8 := dkwX0_clumps_12 ++ dktX0_clumps_13
def dkwX0_clumps_11 : List UInt8 := [167, 0, 4, 3, 96, 54, 9, 21, 10, 153, 0, 31, 21, 11, 21, 8, 162, 0, 20, 42, 180, 0, 60]
abbrev dktX0_clumps_11 : List UInt8 := dkwX0_clumps_11 ++ dktX0_clumps_12
def dkwX0_clumps_10 : List UInt8 := [162, 0, 72, 21, 9, 42, 180, 0, 60, 21, 11, 46, 42, 180, 0, 60, 21, 8, 46, 160, 0, 7, 4]
abbrev dktX0_clumps_10 : List UInt8 := dkwX0_clumps_10 ++ dktX0_clumps_11
def dkwX0_clumps_9 : List UInt8 := [162, 0, 125, 3, 54, 9, 4, 54, 10, 3, 54, 11, 21, 11, 42, 180, 0, 66, 27, 50, 182, 1, 193]
abbrev dktX0_clumps_9 : List UInt8 := dkwX0_clumps_9 ++ dktX0_clumps_10
def dkwX0_clumps_8 : List UInt8 := [96, 54, 5, 132, 8, 1, 167, 255, 154, 3, 54, 8, 21, 8, 42, 180, 0, 66, 27, 50, 182, 1, 193]
abbrev dktX0_clumps_8 : List UInt8 := dkwX0_clumps_8 ++ dktX0_clumps_9
def dkwX0_clumps_7 : List UInt8 := [167, 0, 11, 21, 9, 28, 108, 4, 96, 28, 104, 79, 21, 5, 42, 180, 0, 60, 21, 8, 46, 21, 9, 100]
abbrev dktX0_clumps_7 : List UInt8 := dkwX0_clumps_7 ++ dktX0_clumps_8
def dkwX0_clumps_6 : List UInt8 := [182, 1, 194, 136, 54, 9, 42, 180, 0, 60, 21, 8, 21, 9, 28, 112, 29, 162, 0, 8, 21, 9]
abbrev dktX0_clumps_6 : List UInt8 := dkwX0_clumps_6 ++ dktX0_clumps_7
def dkwX0_clumps_5 : List UInt8 := [20, 1, 197, 184, 0, 81, 154, 0, 10, 42, 16, 253, 182, 0, 73, 172, 42, 180, 0, 66, 27, 50, 21, 8]
abbrev dktX0_clumps_5 : List UInt8 := dkwX0_clumps_5 ++ dktX0_clumps_6
def dkwX0_clumps_4 : List UInt8 := [42, 180, 0, 66, 27, 50, 182, 1, 193, 162, 0, 94, 42, 180, 0, 66, 27, 50, 21, 8, 182, 1, 194, 9]
abbrev dktX0_clumps_4 : List UInt8 := dkwX0_clumps_4 ++ dktX0_clumps_5
def dkwX0_clumps_3 : List UInt8 := [154, 0, 10, 42, 16, 253, 182, 0, 73, 172, 3, 54, 5, 3, 54, 6, 3, 54, 7, 3, 54, 8, 21, 8]
abbrev dktX0_clumps_3 : List UInt8 := dkwX0_clumps_3 ++ dktX0_clumps_4
def dkwX0_clumps_2 : List UInt8 := [133, 20, 1, 187, 20, 1, 170, 184, 0, 81, 153, 0, 16, 29, 133, 10, 28, 4, 100, 133, 184, 0, 81]
abbrev dktX0_clumps_2 : List UInt8 := dkwX0_clumps_2 ++ dktX0_clumps_3
def dkwX0_clumps_1 : List UInt8 := [182, 0, 73, 172, 42, 180, 0, 66, 27, 50, 180, 1, 189, 199, 0, 10, 42, 16, 250, 182, 0, 73, 172, 28]
abbrev dktX0_clumps_1 : List UInt8 := dkwX0_clumps_1 ++ dktX0_clumps_2
def dkwX0_clumps_0 : List UInt8 := [27, 184, 1, 184, 153, 0, 16, 21, 4, 133, 9, 20, 1, 187, 184, 0, 81, 154, 0, 10, 42, 16, 254]
abbrev dktX0_clumps_0 : List UInt8 := dkwX0_clumps_0 ++ dktX0_clumps_1
theorem dksX0_clumps_0 : cX0_clumps.data.toList.drop 0 = dktX0_clumps_0 := by decide +kernel
theorem dksX0_clumps_1 : cX0_clumps.data.toList.drop 23 = dktX0_clumps_1 := dk_seg dksX0_clumps_0 23 rfl rfl
theorem dksX0_clumps_2 : cX0_clumps.data.toList.drop 47 = dktX0_clumps_2 := dk_seg dksX0_clumps_1 24 rfl rfl
theorem dksX0_clumps_3 : cX0_clumps.data.toList.drop 70 = dktX0_clumps_3 := dk_seg dksX0_clumps_2 23 rfl rfl
theorem dksX0_clumps_4 : cX0_clumps.data.toList.drop 94 = dktX0_clumps_4 := dk_seg dksX0_clumps_3 24 rfl rfl
theorem dksX0_clumps_5 : cX0_clumps.data.toList.drop 118 = dktX0_clumps_5 := dk_seg dksX0_clumps_4 24 rfl rfl
theorem dksX0_clumps_6 : cX0_clumps.data.toList.drop 142 = dktX0_clumps_6 := dk_seg dksX0_clumps_5 24 rfl rfl
theorem dksX0_clumps_7 : cX0_clumps.data.toList.drop 164 = dktX0_clumps_7 := dk_seg dksX0_clumps_6 22 rfl rfl
theorem dksX0_clumps_8 : cX0_clumps.data.toList.drop 188 = dktX0_clumps_8 := dk_seg dksX0_clumps_7 24 rfl rfl
theorem dksX0_clumps_9 : cX0_clumps.data.toList.drop 211 = dktX0_clumps_9 := dk_seg dksX0_clumps_8 23 rfl rfl
theorem dksX0_clumps_10 : cX0_clumps.data.toList.drop 234 = dktX0_clumps_10 := dk_seg dksX0_clumps_9 23 rfl rfl
theorem dksX0_clumps_11 : cX0_clumps.data.toList.drop 257 = dktX0_clumps_11 := dk_seg dksX0_clumps_10 23 rfl rfl
theorem dksX0_clumps_12 : cX0_clumps.data.toList.drop 280 = dktX0_clumps_12 := dk_seg dksX0_clumps_11 23 rfl rfl
theorem dksX0_clumps_13 : cX0_clumps.data.toList.drop 303 = dktX0_clumps_13 := dk_seg dksX0_clumps_12 23 rfl rfl
theorem dksX0_clumps_14 : cX0_clumps.data.toList.drop 325 = dktX0_clumps_14 := dk_seg dksX0_clumps_13 22 rfl rfl
theorem dksX0_clumps_15 : cX0_clumps.data.toList.drop 349 = dktX0_clumps_15 := dk_seg dksX0_clumps_14 24 rfl rfl
theorem dX0_clumps_0 : decode cX0_clumps 0 = .ok (.iload_n 1, 1) := dk_27 (dk_at dksX0_clumps_0 0 rfl rfl)
theorem dX0_clumps_1 : decode cX0_clumps 1 = .ok (.invokestatic 440, 3) := dk_184 1 184 (dk_at dksX0_clumps_0 1 rfl rfl)
theorem dX0_clumps_4 : decode cX0_clumps 4 = .ok (.ifCond .eq 16, 3) := dk_153 0 16 (dk_at dksX0_clumps_0 4 rfl rfl)
theorem dX0_clumps_7 : decode cX0_clumps 7 = .ok (.iload 4, 2) := dk_21 4 (dk_at dksX0_clumps_0 7 rfl rfl)
theorem dX0_clumps_9 : decode cX0_clumps 9 = .ok (.i2l, 1) := dk_133 (dk_at dksX0_clumps_0 9 rfl rfl)
theorem dX0_clumps_10 : decode cX0_clumps 10 = .ok (.lconst 0, 1) := dk_9 (dk_at dksX0_clumps_0 10 rfl rfl)
theorem dX0_clumps_11 : decode cX0_clumps 11 = .ok (.ldc2_w 443, 3) := dk_20 1 187 (dk_at dksX0_clumps_0 11 rfl rfl)
theorem dX0_clumps_14 : decode cX0_clumps 14 = .ok (.invokestatic 81, 3) := dk_184 0 81 (dk_at dksX0_clumps_0 14 rfl rfl)
theorem dX0_clumps_17 : decode cX0_clumps 17 = .ok (.ifCond .ne 10, 3) := dk_154 0 10 (dk_at dksX0_clumps_0 17 rfl rfl)
theorem dX0_clumps_20 : decode cX0_clumps 20 = .ok (.aload_n 0, 1) := dk_42 (dk_at dksX0_clumps_0 20 rfl rfl)
theorem dX0_clumps_21 : decode cX0_clumps 21 = .ok (.bipush (-2), 2) := dk_16 254 (dk_at dksX0_clumps_0 21 rfl rfl)
theorem dX0_clumps_23 : decode cX0_clumps 23 = .ok (.invokevirtual 73, 3) := dk_182 0 73 (dk_at dksX0_clumps_1 0 rfl rfl)
theorem dX0_clumps_26 : decode cX0_clumps 26 = .ok (.ireturn, 1) := dk_172 (dk_at dksX0_clumps_1 3 rfl rfl)
theorem dX0_clumps_27 : decode cX0_clumps 27 = .ok (.aload_n 0, 1) := dk_42 (dk_at dksX0_clumps_1 4 rfl rfl)
theorem dX0_clumps_28 : decode cX0_clumps 28 = .ok (.getfield 66, 3) := dk_180 0 66 (dk_at dksX0_clumps_1 5 rfl rfl)
theorem dX0_clumps_31 : decode cX0_clumps 31 = .ok (.iload_n 1, 1) := dk_27 (dk_at dksX0_clumps_1 8 rfl rfl)
theorem dX0_clumps_32 : decode cX0_clumps 32 = .ok (.aaload, 1) := dk_50 (dk_at dksX0_clumps_1 9 rfl rfl)
theorem dX0_clumps_33 : decode cX0_clumps 33 = .ok (.getfield 445, 3) := dk_180 1 189 (dk_at dksX0_clumps_1 10 rfl rfl)
theorem dX0_clumps_36 : decode cX0_clumps 36 = .ok (.ifnonnull 10, 3) := dk_199 0 10 (dk_at dksX0_clumps_1 13 rfl rfl)
theorem dX0_clumps_39 : decode cX0_clumps 39 = .ok (.aload_n 0, 1) := dk_42 (dk_at dksX0_clumps_1 16 rfl rfl)
theorem dX0_clumps_40 : decode cX0_clumps 40 = .ok (.bipush (-6), 2) := dk_16 250 (dk_at dksX0_clumps_1 17 rfl rfl)
theorem dX0_clumps_42 : decode cX0_clumps 42 = .ok (.invokevirtual 73, 3) := dk_182 0 73 (dk_at dksX0_clumps_1 19 rfl rfl)
theorem dX0_clumps_45 : decode cX0_clumps 45 = .ok (.ireturn, 1) := dk_172 (dk_at dksX0_clumps_1 22 rfl rfl)
theorem dX0_clumps_46 : decode cX0_clumps 46 = .ok (.iload_n 2, 1) := dk_28 (dk_at dksX0_clumps_1 23 rfl rfl)
theorem dX0_clumps_47 : decode cX0_clumps 47 = .ok (.i2l, 1) := dk_133 (dk_at dksX0_clumps_2 0 rfl rfl)
theorem dX0_clumps_48 : decode cX0_clumps 48 = .ok (.ldc2_w 443, 3) := dk_20 1 187 (dk_at dksX0_clumps_2 1 rfl rfl)
theorem dX0_clumps_51 : decode cX0_clumps 51 = .ok (.ldc2_w 426, 3) := dk_20 1 170 (dk_at dksX0_clumps_2 4 rfl rfl)
theorem dX0_clumps_54 : decode cX0_clumps 54 = .ok (.invokestatic 81, 3) := dk_184 0 81 (dk_at dksX0_clumps_2 7 rfl rfl)
theorem dX0_clumps_57 : decode cX0_clumps 57 = .ok (.ifCond .eq 16, 3) := dk_153 0 16 (dk_at dksX0_clumps_2 10 rfl rfl)
theorem dX0_clumps_60 : decode cX0_clumps 60 = .ok (.iload_n 3, 1) := dk_29 (dk_at dksX0_clumps_2 13 rfl rfl)
theorem dX0_clumps_61 : decode cX0_clumps 61 = .ok (.i2l, 1) := dk_133 (dk_at dksX0_clumps_2 14 rfl rfl)
theorem dX0_clumps_62 : decode cX0_clumps 62 = .ok (.lconst 1, 1) := dk_10 (dk_at dksX0_clumps_2 15 rfl rfl)
theorem dX0_clumps_63 : decode cX0_clumps 63 = .ok (.iload_n 2, 1) := dk_28 (dk_at dksX0_clumps_2 16 rfl rfl)
theorem dX0_clumps_64 : decode cX0_clumps 64 = .ok (.iconst 1, 1) := dk_4 (dk_at dksX0_clumps_2 17 rfl rfl)
theorem dX0_clumps_65 : decode cX0_clumps 65 = .ok (.isub, 1) := dk_100 (dk_at dksX0_clumps_2 18 rfl rfl)
theorem dX0_clumps_66 : decode cX0_clumps 66 = .ok (.i2l, 1) := dk_133 (dk_at dksX0_clumps_2 19 rfl rfl)
theorem dX0_clumps_67 : decode cX0_clumps 67 = .ok (.invokestatic 81, 3) := dk_184 0 81 (dk_at dksX0_clumps_2 20 rfl rfl)
theorem dX0_clumps_70 : decode cX0_clumps 70 = .ok (.ifCond .ne 10, 3) := dk_154 0 10 (dk_at dksX0_clumps_3 0 rfl rfl)
theorem dX0_clumps_73 : decode cX0_clumps 73 = .ok (.aload_n 0, 1) := dk_42 (dk_at dksX0_clumps_3 3 rfl rfl)
theorem dX0_clumps_74 : decode cX0_clumps 74 = .ok (.bipush (-3), 2) := dk_16 253 (dk_at dksX0_clumps_3 4 rfl rfl)
theorem dX0_clumps_76 : decode cX0_clumps 76 = .ok (.invokevirtual 73, 3) := dk_182 0 73 (dk_at dksX0_clumps_3 6 rfl rfl)
theorem dX0_clumps_79 : decode cX0_clumps 79 = .ok (.ireturn, 1) := dk_172 (dk_at dksX0_clumps_3 9 rfl rfl)
theorem dX0_clumps_80 : decode cX0_clumps 80 = .ok (.iconst 0, 1) := dk_3 (dk_at dksX0_clumps_3 10 rfl rfl)
theorem dX0_clumps_81 : decode cX0_clumps 81 = .ok (.istore 5, 2) := dk_54 5 (dk_at dksX0_clumps_3 11 rfl rfl)
theorem dX0_clumps_83 : decode cX0_clumps 83 = .ok (.iconst 0, 1) := dk_3 (dk_at dksX0_clumps_3 13 rfl rfl)
theorem dX0_clumps_84 : decode cX0_clumps 84 = .ok (.istore 6, 2) := dk_54 6 (dk_at dksX0_clumps_3 14 rfl rfl)
theorem dX0_clumps_86 : decode cX0_clumps 86 = .ok (.iconst 0, 1) := dk_3 (dk_at dksX0_clumps_3 16 rfl rfl)
theorem dX0_clumps_87 : decode cX0_clumps 87 = .ok (.istore 7, 2) := dk_54 7 (dk_at dksX0_clumps_3 17 rfl rfl)
theorem dX0_clumps_89 : decode cX0_clumps 89 = .ok (.iconst 0, 1) := dk_3 (dk_at dksX0_clumps_3 19 rfl rfl)
theorem dX0_clumps_90 : decode cX0_clumps 90 = .ok (.istore 8, 2) := dk_54 8 (dk_at dksX0_clumps_3 20 rfl rfl)
theorem dX0_clumps_92 : decode cX0_clumps 92 = .ok (.iload 8, 2) := dk_21 8 (dk_at dksX0_clumps_3 22 rfl rfl)
theorem dX0_clumps_94 : decode cX0_clumps 94 = .ok (.aload_n 0, 1) := dk_42 (dk_at dksX0_clumps_4 0 rfl rfl)
theorem dX0_clumps_95 : decode cX0_clumps 95 = .ok (.getfield 66, 3) := dk_180 0 66 (dk_at dksX0_clumps_4 1 rfl rfl)
theorem dX0_clumps_98 : decode cX0_clumps 98 = .ok (.iload_n 1, 1) := dk_27 (dk_at dksX0_clumps_4 4 rfl rfl)
theorem dX0_clumps_99 : decode cX0_clumps 99 = .ok (.aaload, 1) := dk_50 (dk_at dksX0_clumps_4 5 rfl rfl)
theorem dX0_clumps_100 : decode cX0_clumps 100 = .ok (.invokevirtual 449, 3) := dk_182 1 193 (dk_at dksX0_clumps_4 6 rfl rfl)
theorem dX0_clumps_103 : decode cX0_clumps 103 = .ok (.if_icmp .ge 94, 3) := dk_162 0 94 (dk_at dksX0_clumps_4 9 rfl rfl)
theorem dX0_clumps_106 : decode cX0_clumps 106 = .ok (.aload_n 0, 1) := dk_42 (dk_at dksX0_clumps_4 12 rfl rfl)
theorem dX0_clumps_107 : decode cX0_clumps 107 = .ok (.getfield 66, 3) := dk_180 0 66 (dk_at dksX0_clumps_4 13 rfl rfl)
theorem dX0_clumps_110 : decode cX0_clumps 110 = .ok (.iload_n 1, 1) := dk_27 (dk_at dksX0_clumps_4 16 rfl rfl)
theorem dX0_clumps_111 : decode cX0_clumps 111 = .ok (.aaload, 1) := dk_50 (dk_at dksX0_clumps_4 17 rfl rfl)
theorem dX0_clumps_112 : decode cX0_clumps 112 = .ok (.iload 8, 2) := dk_21 8 (dk_at dksX0_clumps_4 18 rfl rfl)
theorem dX0_clumps_114 : decode cX0_clumps 114 = .ok (.invokevirtual 450, 3) := dk_182 1 194 (dk_at dksX0_clumps_4 20 rfl rfl)
theorem dX0_clumps_117 : decode cX0_clumps 117 = .ok (.lconst 0, 1) := dk_9 (dk_at dksX0_clumps_4 23 rfl rfl)
theorem dX0_clumps_118 : decode cX0_clumps 118 = .ok (.ldc2_w 453, 3) := dk_20 1 197 (dk_at dksX0_clumps_5 0 rfl rfl)
theorem dX0_clumps_121 : decode cX0_clumps 121 = .ok (.invokestatic 81, 3) := dk_184 0 81 (dk_at dksX0_clumps_5 3 rfl rfl)
theorem dX0_clumps_124 : decode cX0_clumps 124 = .ok (.ifCond .ne 10, 3) := dk_154 0 10 (dk_at dksX0_clumps_5 6 rfl rfl)
theorem dX0_clumps_127 : decode cX0_clumps 127 = .ok (.aload_n 0, 1) := dk_42 (dk_at dksX0_clumps_5 9 rfl rfl)
theorem dX0_clumps_128 : decode cX0_clumps 128 = .ok (.bipush (-3), 2) := dk_16 253 (dk_at dksX0_clumps_5 10 rfl rfl)
theorem dX0_clumps_130 : decode cX0_clumps 130 = .ok (.invokevirtual 73, 3) := dk_182 0 73 (dk_at dksX0_clumps_5 12 rfl rfl)
theorem dX0_clumps_133 : decode cX0_clumps 133 = .ok (.ireturn, 1) := dk_172 (dk_at dksX0_clumps_5 15 rfl rfl)
theorem dX0_clumps_134 : decode cX0_clumps 134 = .ok (.aload_n 0, 1) := dk_42 (dk_at dksX0_clumps_5 16 rfl rfl)
theorem dX0_clumps_135 : decode cX0_clumps 135 = .ok (.getfield 66, 3) := dk_180 0 66 (dk_at dksX0_clumps_5 17 rfl rfl)
theorem dX0_clumps_138 : decode cX0_clumps 138 = .ok (.iload_n 1, 1) := dk_27 (dk_at dksX0_clumps_5 20 rfl rfl)
theorem dX0_clumps_139 : decode cX0_clumps 139 = .ok (.aaload, 1) := dk_50 (dk_at dksX0_clumps_5 21 rfl rfl)
theorem dX0_clumps_140 : decode cX0_clumps 140 = .ok (.iload 8, 2) := dk_21 8 (dk_at dksX0_clumps_5 22 rfl rfl)
theorem dX0_clumps_142 : decode cX0_clumps 142 = .ok (.invokevirtual 450, 3) := dk_182 1 194 (dk_at dksX0_clumps_6 0 rfl rfl)
theorem dX0_clumps_145 : decode cX0_clumps 145 = .ok (.l2i, 1) := dk_136 (dk_at dksX0_clumps_6 3 rfl rfl)
theorem dX0_clumps_146 : decode cX0_clumps 146 = .ok (.istore 9, 2) := dk_54 9 (dk_at dksX0_clumps_6 4 rfl rfl)
theorem dX0_clumps_148 : decode cX0_clumps 148 = .ok (.aload_n 0, 1) := dk_42 (dk_at dksX0_clumps_6 6 rfl rfl)
theorem dX0_clumps_149 : decode cX0_clumps 149 = .ok (.getfield 60, 3) := dk_180 0 60 (dk_at dksX0_clumps_6 7 rfl rfl)
theorem dX0_clumps_152 : decode cX0_clumps 152 = .ok (.iload 8, 2) := dk_21 8 (dk_at dksX0_clumps_6 10 rfl rfl)
theorem dX0_clumps_154 : decode cX0_clumps 154 = .ok (.iload 9, 2) := dk_21 9 (dk_at dksX0_clumps_6 12 rfl rfl)
theorem dX0_clumps_156 : decode cX0_clumps 156 = .ok (.iload_n 2, 1) := dk_28 (dk_at dksX0_clumps_6 14 rfl rfl)
theorem dX0_clumps_157 : decode cX0_clumps 157 = .ok (.irem, 1) := dk_112 (dk_at dksX0_clumps_6 15 rfl rfl)
theorem dX0_clumps_158 : decode cX0_clumps 158 = .ok (.iload_n 3, 1) := dk_29 (dk_at dksX0_clumps_6 16 rfl rfl)
theorem dX0_clumps_159 : decode cX0_clumps 159 = .ok (.if_icmp .ge 8, 3) := dk_162 0 8 (dk_at dksX0_clumps_6 17 rfl rfl)
theorem dX0_clumps_162 : decode cX0_clumps 162 = .ok (.iload 9, 2) := dk_21 9 (dk_at dksX0_clumps_6 20 rfl rfl)
theorem dX0_clumps_164 : decode cX0_clumps 164 = .ok (.goto 11, 3) := dk_167 0 11 (dk_at dksX0_clumps_7 0 rfl rfl)
theorem dX0_clumps_167 : decode cX0_clumps 167 = .ok (.iload 9, 2) := dk_21 9 (dk_at dksX0_clumps_7 3 rfl rfl)
theorem dX0_clumps_169 : decode cX0_clumps 169 = .ok (.iload_n 2, 1) := dk_28 (dk_at dksX0_clumps_7 5 rfl rfl)
theorem dX0_clumps_170 : decode cX0_clumps 170 = .ok (.idiv, 1) := dk_108 (dk_at dksX0_clumps_7 6 rfl rfl)
theorem dX0_clumps_171 : decode cX0_clumps 171 = .ok (.iconst 1, 1) := dk_4 (dk_at dksX0_clumps_7 7 rfl rfl)
theorem dX0_clumps_172 : decode cX0_clumps 172 = .ok (.iadd, 1) := dk_96 (dk_at dksX0_clumps_7 8 rfl rfl)
theorem dX0_clumps_173 : decode cX0_clumps 173 = .ok (.iload_n 2, 1) := dk_28 (dk_at dksX0_clumps_7 9 rfl rfl)
theorem dX0_clumps_174 : decode cX0_clumps 174 = .ok (.imul, 1) := dk_104 (dk_at dksX0_clumps_7 10 rfl rfl)
theorem dX0_clumps_175 : decode cX0_clumps 175 = .ok (.iastore, 1) := dk_79 (dk_at dksX0_clumps_7 11 rfl rfl)
theorem dX0_clumps_176 : decode cX0_clumps 176 = .ok (.iload 5, 2) := dk_21 5 (dk_at dksX0_clumps_7 12 rfl rfl)
theorem dX0_clumps_178 : decode cX0_clumps 178 = .ok (.aload_n 0, 1) := dk_42 (dk_at dksX0_clumps_7 14 rfl rfl)
theorem dX0_clumps_179 : decode cX0_clumps 179 = .ok (.getfield 60, 3) := dk_180 0 60 (dk_at dksX0_clumps_7 15 rfl rfl)
theorem dX0_clumps_182 : decode cX0_clumps 182 = .ok (.iload 8, 2) := dk_21 8 (dk_at dksX0_clumps_7 18 rfl rfl)
theorem dX0_clumps_184 : decode cX0_clumps 184 = .ok (.iaload, 1) := dk_46 (dk_at dksX0_clumps_7 20 rfl rfl)
theorem dX0_clumps_185 : decode cX0_clumps 185 = .ok (.iload 9, 2) := dk_21 9 (dk_at dksX0_clumps_7 21 rfl rfl)
theorem dX0_clumps_187 : decode cX0_clumps 187 = .ok (.isub, 1) := dk_100 (dk_at dksX0_clumps_7 23 rfl rfl)
theorem dX0_clumps_188 : decode cX0_clumps 188 = .ok (.iadd, 1) := dk_96 (dk_at dksX0_clumps_8 0 rfl rfl)
theorem dX0_clumps_189 : decode cX0_clumps 189 = .ok (.istore 5, 2) := dk_54 5 (dk_at dksX0_clumps_8 1 rfl rfl)
theorem dX0_clumps_191 : decode cX0_clumps 191 = .ok (.iinc 8 1, 3) := dk_132 8 1 (dk_at dksX0_clumps_8 3 rfl rfl)
theorem dX0_clumps_194 : decode cX0_clumps 194 = .ok (.goto (-102), 3) := dk_167 255 154 (dk_at dksX0_clumps_8 6 rfl rfl)
theorem dX0_clumps_197 : decode cX0_clumps 197 = .ok (.iconst 0, 1) := dk_3 (dk_at dksX0_clumps_8 9 rfl rfl)
theorem dX0_clumps_198 : decode cX0_clumps 198 = .ok (.istore 8, 2) := dk_54 8 (dk_at dksX0_clumps_8 10 rfl rfl)
theorem dX0_clumps_200 : decode cX0_clumps 200 = .ok (.iload 8, 2) := dk_21 8 (dk_at dksX0_clumps_8 12 rfl rfl)
theorem dX0_clumps_202 : decode cX0_clumps 202 = .ok (.aload_n 0, 1) := dk_42 (dk_at dksX0_clumps_8 14 rfl rfl)
theorem dX0_clumps_203 : decode cX0_clumps 203 = .ok (.getfield 66, 3) := dk_180 0 66 (dk_at dksX0_clumps_8 15 rfl rfl)
theorem dX0_clumps_206 : decode cX0_clumps 206 = .ok (.iload_n 1, 1) := dk_27 (dk_at dksX0_clumps_8 18 rfl rfl)
theorem dX0_clumps_207 : decode cX0_clumps 207 = .ok (.aaload, 1) := dk_50 (dk_at dksX0_clumps_8 19 rfl rfl)
theorem dX0_clumps_208 : decode cX0_clumps 208 = .ok (.invokevirtual 449, 3) := dk_182 1 193 (dk_at dksX0_clumps_8 20 rfl rfl)
theorem dX0_clumps_211 : decode cX0_clumps 211 = .ok (.if_icmp .ge 125, 3) := dk_162 0 125 (dk_at dksX0_clumps_9 0 rfl rfl)
theorem dX0_clumps_214 : decode cX0_clumps 214 = .ok (.iconst 0, 1) := dk_3 (dk_at dksX0_clumps_9 3 rfl rfl)
theorem dX0_clumps_215 : decode cX0_clumps 215 = .ok (.istore 9, 2) := dk_54 9 (dk_at dksX0_clumps_9 4 rfl rfl)
theorem dX0_clumps_217 : decode cX0_clumps 217 = .ok (.iconst 1, 1) := dk_4 (dk_at dksX0_clumps_9 6 rfl rfl)
theorem dX0_clumps_218 : decode cX0_clumps 218 = .ok (.istore 10, 2) := dk_54 10 (dk_at dksX0_clumps_9 7 rfl rfl)
theorem dX0_clumps_220 : decode cX0_clumps 220 = .ok (.iconst 0, 1) := dk_3 (dk_at dksX0_clumps_9 9 rfl rfl)
theorem dX0_clumps_221 : decode cX0_clumps 221 = .ok (.istore 11, 2) := dk_54 11 (dk_at dksX0_clumps_9 10 rfl rfl)
theorem dX0_clumps_223 : decode cX0_clumps 223 = .ok (.iload 11, 2) := dk_21 11 (dk_at dksX0_clumps_9 12 rfl rfl)
theorem dX0_clumps_225 : decode cX0_clumps 225 = .ok (.aload_n 0, 1) := dk_42 (dk_at dksX0_clumps_9 14 rfl rfl)
theorem dX0_clumps_226 : decode cX0_clumps 226 = .ok (.getfield 66, 3) := dk_180 0 66 (dk_at dksX0_clumps_9 15 rfl rfl)
theorem dX0_clumps_229 : decode cX0_clumps 229 = .ok (.iload_n 1, 1) := dk_27 (dk_at dksX0_clumps_9 18 rfl rfl)
theorem dX0_clumps_230 : decode cX0_clumps 230 = .ok (.aaload, 1) := dk_50 (dk_at dksX0_clumps_9 19 rfl rfl)
theorem dX0_clumps_231 : decode cX0_clumps 231 = .ok (.invokevirtual 449, 3) := dk_182 1 193 (dk_at dksX0_clumps_9 20 rfl rfl)
theorem dX0_clumps_234 : decode cX0_clumps 234 = .ok (.if_icmp .ge 72, 3) := dk_162 0 72 (dk_at dksX0_clumps_10 0 rfl rfl)
theorem dX0_clumps_237 : decode cX0_clumps 237 = .ok (.iload 9, 2) := dk_21 9 (dk_at dksX0_clumps_10 3 rfl rfl)
theorem dX0_clumps_239 : decode cX0_clumps 239 = .ok (.aload_n 0, 1) := dk_42 (dk_at dksX0_clumps_10 5 rfl rfl)
theorem dX0_clumps_240 : decode cX0_clumps 240 = .ok (.getfield 60, 3) := dk_180 0 60 (dk_at dksX0_clumps_10 6 rfl rfl)
theorem dX0_clumps_243 : decode cX0_clumps 243 = .ok (.iload 11, 2) := dk_21 11 (dk_at dksX0_clumps_10 9 rfl rfl)
theorem dX0_clumps_245 : decode cX0_clumps 245 = .ok (.iaload, 1) := dk_46 (dk_at dksX0_clumps_10 11 rfl rfl)
theorem dX0_clumps_246 : decode cX0_clumps 246 = .ok (.aload_n 0, 1) := dk_42 (dk_at dksX0_clumps_10 12 rfl rfl)
theorem dX0_clumps_247 : decode cX0_clumps 247 = .ok (.getfield 60, 3) := dk_180 0 60 (dk_at dksX0_clumps_10 13 rfl rfl)
theorem dX0_clumps_250 : decode cX0_clumps 250 = .ok (.iload 8, 2) := dk_21 8 (dk_at dksX0_clumps_10 16 rfl rfl)
theorem dX0_clumps_252 : decode cX0_clumps 252 = .ok (.iaload, 1) := dk_46 (dk_at dksX0_clumps_10 18 rfl rfl)
theorem dX0_clumps_253 : decode cX0_clumps 253 = .ok (.if_icmp .ne 7, 3) := dk_160 0 7 (dk_at dksX0_clumps_10 19 rfl rfl)
theorem dX0_clumps_256 : decode cX0_clumps 256 = .ok (.iconst 1, 1) := dk_4 (dk_at dksX0_clumps_10 22 rfl rfl)
theorem dX0_clumps_257 : decode cX0_clumps 257 = .ok (.goto 4, 3) := dk_167 0 4 (dk_at dksX0_clumps_11 0 rfl rfl)
theorem dX0_clumps_260 : decode cX0_clumps 260 = .ok (.iconst 0, 1) := dk_3 (dk_at dksX0_clumps_11 3 rfl rfl)
theorem dX0_clumps_261 : decode cX0_clumps 261 = .ok (.iadd, 1) := dk_96 (dk_at dksX0_clumps_11 4 rfl rfl)
theorem dX0_clumps_262 : decode cX0_clumps 262 = .ok (.istore 9, 2) := dk_54 9 (dk_at dksX0_clumps_11 5 rfl rfl)
theorem dX0_clumps_264 : decode cX0_clumps 264 = .ok (.iload 10, 2) := dk_21 10 (dk_at dksX0_clumps_11 7 rfl rfl)
theorem dX0_clumps_266 : decode cX0_clumps 266 = .ok (.ifCond .eq 31, 3) := dk_153 0 31 (dk_at dksX0_clumps_11 9 rfl rfl)
theorem dX0_clumps_269 : decode cX0_clumps 269 = .ok (.iload 11, 2) := dk_21 11 (dk_at dksX0_clumps_11 12 rfl rfl)
theorem dX0_clumps_271 : decode cX0_clumps 271 = .ok (.iload 8, 2) := dk_21 8 (dk_at dksX0_clumps_11 14 rfl rfl)
theorem dX0_clumps_273 : decode cX0_clumps 273 = .ok (.if_icmp .ge 20, 3) := dk_162 0 20 (dk_at dksX0_clumps_11 16 rfl rfl)
theorem dX0_clumps_276 : decode cX0_clumps 276 = .ok (.aload_n 0, 1) := dk_42 (dk_at dksX0_clumps_11 19 rfl rfl)
theorem dX0_clumps_277 : decode cX0_clumps 277 = .ok (.getfield 60, 3) := dk_180 0 60 (dk_at dksX0_clumps_11 20 rfl rfl)
theorem dX0_clumps_280 : decode cX0_clumps 280 = .ok (.iload 11, 2) := dk_21 11 (dk_at dksX0_clumps_12 0 rfl rfl)
theorem dX0_clumps_282 : decode cX0_clumps 282 = .ok (.iaload, 1) := dk_46 (dk_at dksX0_clumps_12 2 rfl rfl)
theorem dX0_clumps_283 : decode cX0_clumps 283 = .ok (.aload_n 0, 1) := dk_42 (dk_at dksX0_clumps_12 3 rfl rfl)
theorem dX0_clumps_284 : decode cX0_clumps 284 = .ok (.getfield 60, 3) := dk_180 0 60 (dk_at dksX0_clumps_12 4 rfl rfl)
theorem dX0_clumps_287 : decode cX0_clumps 287 = .ok (.iload 8, 2) := dk_21 8 (dk_at dksX0_clumps_12 7 rfl rfl)
theorem dX0_clumps_289 : decode cX0_clumps 289 = .ok (.iaload, 1) := dk_46 (dk_at dksX0_clumps_12 9 rfl rfl)
theorem dX0_clumps_290 : decode cX0_clumps 290 = .ok (.if_icmp .eq 7, 3) := dk_159 0 7 (dk_at dksX0_clumps_12 10 rfl rfl)
theorem dX0_clumps_293 : decode cX0_clumps 293 = .ok (.iconst 1, 1) := dk_4 (dk_at dksX0_clumps_12 13 rfl rfl)
theorem dX0_clumps_294 : decode cX0_clumps 294 = .ok (.goto 4, 3) := dk_167 0 4 (dk_at dksX0_clumps_12 14 rfl rfl)
theorem dX0_clumps_297 : decode cX0_clumps 297 = .ok (.iconst 0, 1) := dk_3 (dk_at dksX0_clumps_12 17 rfl rfl)
theorem dX0_clumps_298 : decode cX0_clumps 298 = .ok (.istore 10, 2) := dk_54 10 (dk_at dksX0_clumps_12 18 rfl rfl)
theorem dX0_clumps_300 : decode cX0_clumps 300 = .ok (.iinc 11 1, 3) := dk_132 11 1 (dk_at dksX0_clumps_12 20 rfl rfl)
theorem dX0_clumps_303 : decode cX0_clumps 303 = .ok (.goto (-80), 3) := dk_167 255 176 (dk_at dksX0_clumps_13 0 rfl rfl)
theorem dX0_clumps_306 : decode cX0_clumps 306 = .ok (.iload 6, 2) := dk_21 6 (dk_at dksX0_clumps_13 3 rfl rfl)
theorem dX0_clumps_308 : decode cX0_clumps 308 = .ok (.iload 10, 2) := dk_21 10 (dk_at dksX0_clumps_13 5 rfl rfl)
theorem dX0_clumps_310 : decode cX0_clumps 310 = .ok (.ifCond .eq 7, 3) := dk_153 0 7 (dk_at dksX0_clumps_13 7 rfl rfl)
theorem dX0_clumps_313 : decode cX0_clumps 313 = .ok (.iconst 1, 1) := dk_4 (dk_at dksX0_clumps_13 10 rfl rfl)
theorem dX0_clumps_314 : decode cX0_clumps 314 = .ok (.goto 4, 3) := dk_167 0 4 (dk_at dksX0_clumps_13 11 rfl rfl)
theorem dX0_clumps_317 : decode cX0_clumps 317 = .ok (.iconst 0, 1) := dk_3 (dk_at dksX0_clumps_13 14 rfl rfl)
theorem dX0_clumps_318 : decode cX0_clumps 318 = .ok (.iadd, 1) := dk_96 (dk_at dksX0_clumps_13 15 rfl rfl)
theorem dX0_clumps_319 : decode cX0_clumps 319 = .ok (.istore 6, 2) := dk_54 6 (dk_at dksX0_clumps_13 16 rfl rfl)
theorem dX0_clumps_321 : decode cX0_clumps 321 = .ok (.iload 7, 2) := dk_21 7 (dk_at dksX0_clumps_13 18 rfl rfl)
theorem dX0_clumps_323 : decode cX0_clumps 323 = .ok (.iload 9, 2) := dk_21 9 (dk_at dksX0_clumps_13 20 rfl rfl)
theorem dX0_clumps_325 : decode cX0_clumps 325 = .ok (.invokestatic 401, 3) := dk_184 1 145 (dk_at dksX0_clumps_14 0 rfl rfl)
theorem dX0_clumps_328 : decode cX0_clumps 328 = .ok (.istore 7, 2) := dk_54 7 (dk_at dksX0_clumps_14 3 rfl rfl)
theorem dX0_clumps_330 : decode cX0_clumps 330 = .ok (.iinc 8 1, 3) := dk_132 8 1 (dk_at dksX0_clumps_14 5 rfl rfl)
theorem dX0_clumps_333 : decode cX0_clumps 333 = .ok (.goto (-133), 3) := dk_167 255 123 (dk_at dksX0_clumps_14 8 rfl rfl)
theorem dX0_clumps_336 : decode cX0_clumps 336 = .ok (.iload 4, 2) := dk_21 4 (dk_at dksX0_clumps_14 11 rfl rfl)
theorem dX0_clumps_338 : decode cX0_clumps 338 = .ok (.ifCond .ne 8, 3) := dk_154 0 8 (dk_at dksX0_clumps_14 13 rfl rfl)
theorem dX0_clumps_341 : decode cX0_clumps 341 = .ok (.iload 5, 2) := dk_21 5 (dk_at dksX0_clumps_14 16 rfl rfl)
theorem dX0_clumps_343 : decode cX0_clumps 343 = .ok (.goto 16, 3) := dk_167 0 16 (dk_at dksX0_clumps_14 18 rfl rfl)
theorem dX0_clumps_346 : decode cX0_clumps 346 = .ok (.iload 4, 2) := dk_21 4 (dk_at dksX0_clumps_14 21 rfl rfl)
theorem dX0_clumps_348 : decode cX0_clumps 348 = .ok (.iconst 1, 1) := dk_4 (dk_at dksX0_clumps_14 23 rfl rfl)
theorem dX0_clumps_349 : decode cX0_clumps 349 = .ok (.if_icmp .ne 8, 3) := dk_160 0 8 (dk_at dksX0_clumps_15 0 rfl rfl)
theorem dX0_clumps_352 : decode cX0_clumps 352 = .ok (.iload 7, 2) := dk_21 7 (dk_at dksX0_clumps_15 3 rfl rfl)
theorem dX0_clumps_354 : decode cX0_clumps 354 = .ok (.goto 5, 3) := dk_167 0 5 (dk_at dksX0_clumps_15 5 rfl rfl)
theorem dX0_clumps_357 : decode cX0_clumps 357 = .ok (.iload 6, 2) := dk_21 6 (dk_at dksX0_clumps_15 8 rfl rfl)
theorem dX0_clumps_359 : decode cX0_clumps 359 = .ok (.ireturn, 1) := dk_172 (dk_at dksX0_clumps_15 10 rfl rfl)
abbrev cX0_isRow : ByteArray := prog_1_method_87_code
def yX0_isRow : MethodName := ⟨RX0, "isRow", "(I)Z"⟩
def dkwX0_isRow_0 : List UInt8 := [26, 133, 9, 20, 0, 131, 184, 0, 81, 172]
abbrev dktX0_isRow_0 : List UInt8 := dkwX0_isRow_0 ++ []
theorem dksX0_isRow_0 : cX0_isRow.data.toList.drop 0 = dktX0_isRow_0 := by decide +kernel
theorem dX0_isRow_0 : decode cX0_isRow 0 = .ok (.iload_n 0, 1) := dk_26 (dk_at dksX0_isRow_0 0 rfl rfl)
theorem dX0_isRow_1 : decode cX0_isRow 1 = .ok (.i2l, 1) := dk_133 (dk_at dksX0_isRow_0 1 rfl rfl)
theorem dX0_isRow_2 : decode cX0_isRow 2 = .ok (.lconst 0, 1) := dk_9 (dk_at dksX0_isRow_0 2 rfl rfl)
theorem dX0_isRow_3 : decode cX0_isRow 3 = .ok (.ldc2_w 131, 3) := dk_20 0 131 (dk_at dksX0_isRow_0 3 rfl rfl)
theorem dX0_isRow_6 : decode cX0_isRow 6 = .ok (.invokestatic 81, 3) := dk_184 0 81 (dk_at dksX0_isRow_0 6 rfl rfl)
theorem dX0_isRow_9 : decode cX0_isRow 9 = .ok (.ireturn, 1) := dk_172 (dk_at dksX0_isRow_0 9 rfl rfl)
abbrev cX0_lamp : ByteArray := prog_1_method_74_code
def yX0_lamp : MethodName := ⟨RX0, "lamp", "(III)I"⟩
def dkwX0_lamp_6 : List UInt8 := [21, 5, 172]
abbrev dktX0_lamp_6 : List UInt8 := dkwX0_lamp_6 ++ []
def dkwX0_lamp_5 : List UInt8 := [54, 5, 132, 7, 1, 167, 255, 202, 132, 6, 1, 167, 255, 186, 29, 154, 0, 8, 21, 4, 167, 0, 5]
abbrev dktX0_lamp_5 : List UInt8 := dkwX0_lamp_5 ++ dktX0_lamp_6
def dkwX0_lamp_4 : List UInt8 := [21, 4, 21, 5, 184, 1, 199, 21, 6, 133, 105, 148, 155, 0, 6, 167, 0, 11, 21, 6, 54, 4, 21, 7]
abbrev dktX0_lamp_4 : List UInt8 := dkwX0_lamp_4 ++ dktX0_lamp_5
def dkwX0_lamp_3 : List UInt8 := [21, 6, 16, 10, 100, 163, 0, 50, 27, 28, 21, 6, 21, 7, 184, 1, 199, 21, 4, 133, 105, 27, 28]
abbrev dktX0_lamp_3 : List UInt8 := dkwX0_lamp_3 ++ dktX0_lamp_4
def dkwX0_lamp_2 : List UInt8 := [172, 16, 20, 54, 4, 8, 54, 5, 16, 20, 54, 6, 21, 6, 16, 120, 163, 0, 69, 8, 54, 7, 21, 7]
abbrev dktX0_lamp_2 : List UInt8 := dkwX0_lamp_2 ++ dktX0_lamp_3
def dkwX0_lamp_1 : List UInt8 := [184, 0, 81, 153, 0, 15, 28, 133, 9, 20, 1, 170, 184, 0, 81, 154, 0, 10, 42, 16, 253, 182, 0, 73]
abbrev dktX0_lamp_1 : List UInt8 := dkwX0_lamp_1 ++ dktX0_lamp_2
def dkwX0_lamp_0 : List UInt8 := [29, 133, 9, 10, 184, 0, 81, 154, 0, 10, 42, 16, 254, 182, 0, 73, 172, 27, 133, 9, 20, 1, 170]
abbrev dktX0_lamp_0 : List UInt8 := dkwX0_lamp_0 ++ dktX0_lamp_1
theorem dksX0_lamp_0 : cX0_lamp.data.toList.drop 0 = dktX0_lamp_0 := by decide +kernel
theorem dksX0_lamp_1 : cX0_lamp.data.toList.drop 23 = dktX0_lamp_1 := dk_seg dksX0_lamp_0 23 rfl rfl
theorem dksX0_lamp_2 : cX0_lamp.data.toList.drop 47 = dktX0_lamp_2 := dk_seg dksX0_lamp_1 24 rfl rfl
theorem dksX0_lamp_3 : cX0_lamp.data.toList.drop 71 = dktX0_lamp_3 := dk_seg dksX0_lamp_2 24 rfl rfl
theorem dksX0_lamp_4 : cX0_lamp.data.toList.drop 94 = dktX0_lamp_4 := dk_seg dksX0_lamp_3 23 rfl rfl
theorem dksX0_lamp_5 : cX0_lamp.data.toList.drop 118 = dktX0_lamp_5 := dk_seg dksX0_lamp_4 24 rfl rfl
theorem dksX0_lamp_6 : cX0_lamp.data.toList.drop 141 = dktX0_lamp_6 := dk_seg dksX0_lamp_5 23 rfl rfl
theorem dX0_lamp_0 : decode cX0_lamp 0 = .ok (.iload_n 3, 1) := dk_29 (dk_at dksX0_lamp_0 0 rfl rfl)
theorem dX0_lamp_1 : decode cX0_lamp 1 = .ok (.i2l, 1) := dk_133 (dk_at dksX0_lamp_0 1 rfl rfl)
theorem dX0_lamp_2 : decode cX0_lamp 2 = .ok (.lconst 0, 1) := dk_9 (dk_at dksX0_lamp_0 2 rfl rfl)
theorem dX0_lamp_3 : decode cX0_lamp 3 = .ok (.lconst 1, 1) := dk_10 (dk_at dksX0_lamp_0 3 rfl rfl)
theorem dX0_lamp_4 : decode cX0_lamp 4 = .ok (.invokestatic 81, 3) := dk_184 0 81 (dk_at dksX0_lamp_0 4 rfl rfl)
theorem dX0_lamp_7 : decode cX0_lamp 7 = .ok (.ifCond .ne 10, 3) := dk_154 0 10 (dk_at dksX0_lamp_0 7 rfl rfl)
theorem dX0_lamp_10 : decode cX0_lamp 10 = .ok (.aload_n 0, 1) := dk_42 (dk_at dksX0_lamp_0 10 rfl rfl)
theorem dX0_lamp_11 : decode cX0_lamp 11 = .ok (.bipush (-2), 2) := dk_16 254 (dk_at dksX0_lamp_0 11 rfl rfl)
theorem dX0_lamp_13 : decode cX0_lamp 13 = .ok (.invokevirtual 73, 3) := dk_182 0 73 (dk_at dksX0_lamp_0 13 rfl rfl)
theorem dX0_lamp_16 : decode cX0_lamp 16 = .ok (.ireturn, 1) := dk_172 (dk_at dksX0_lamp_0 16 rfl rfl)
theorem dX0_lamp_17 : decode cX0_lamp 17 = .ok (.iload_n 1, 1) := dk_27 (dk_at dksX0_lamp_0 17 rfl rfl)
theorem dX0_lamp_18 : decode cX0_lamp 18 = .ok (.i2l, 1) := dk_133 (dk_at dksX0_lamp_0 18 rfl rfl)
theorem dX0_lamp_19 : decode cX0_lamp 19 = .ok (.lconst 0, 1) := dk_9 (dk_at dksX0_lamp_0 19 rfl rfl)
theorem dX0_lamp_20 : decode cX0_lamp 20 = .ok (.ldc2_w 426, 3) := dk_20 1 170 (dk_at dksX0_lamp_0 20 rfl rfl)
theorem dX0_lamp_23 : decode cX0_lamp 23 = .ok (.invokestatic 81, 3) := dk_184 0 81 (dk_at dksX0_lamp_1 0 rfl rfl)
theorem dX0_lamp_26 : decode cX0_lamp 26 = .ok (.ifCond .eq 15, 3) := dk_153 0 15 (dk_at dksX0_lamp_1 3 rfl rfl)
theorem dX0_lamp_29 : decode cX0_lamp 29 = .ok (.iload_n 2, 1) := dk_28 (dk_at dksX0_lamp_1 6 rfl rfl)
theorem dX0_lamp_30 : decode cX0_lamp 30 = .ok (.i2l, 1) := dk_133 (dk_at dksX0_lamp_1 7 rfl rfl)
theorem dX0_lamp_31 : decode cX0_lamp 31 = .ok (.lconst 0, 1) := dk_9 (dk_at dksX0_lamp_1 8 rfl rfl)
theorem dX0_lamp_32 : decode cX0_lamp 32 = .ok (.ldc2_w 426, 3) := dk_20 1 170 (dk_at dksX0_lamp_1 9 rfl rfl)
theorem dX0_lamp_35 : decode cX0_lamp 35 = .ok (.invokestatic 81, 3) := dk_184 0 81 (dk_at dksX0_lamp_1 12 rfl rfl)
theorem dX0_lamp_38 : decode cX0_lamp 38 = .ok (.ifCond .ne 10, 3) := dk_154 0 10 (dk_at dksX0_lamp_1 15 rfl rfl)
theorem dX0_lamp_41 : decode cX0_lamp 41 = .ok (.aload_n 0, 1) := dk_42 (dk_at dksX0_lamp_1 18 rfl rfl)
theorem dX0_lamp_42 : decode cX0_lamp 42 = .ok (.bipush (-3), 2) := dk_16 253 (dk_at dksX0_lamp_1 19 rfl rfl)
theorem dX0_lamp_44 : decode cX0_lamp 44 = .ok (.invokevirtual 73, 3) := dk_182 0 73 (dk_at dksX0_lamp_1 21 rfl rfl)
theorem dX0_lamp_47 : decode cX0_lamp 47 = .ok (.ireturn, 1) := dk_172 (dk_at dksX0_lamp_2 0 rfl rfl)
theorem dX0_lamp_48 : decode cX0_lamp 48 = .ok (.bipush 20, 2) := dk_16 20 (dk_at dksX0_lamp_2 1 rfl rfl)
theorem dX0_lamp_50 : decode cX0_lamp 50 = .ok (.istore 4, 2) := dk_54 4 (dk_at dksX0_lamp_2 3 rfl rfl)
theorem dX0_lamp_52 : decode cX0_lamp 52 = .ok (.iconst 5, 1) := dk_8 (dk_at dksX0_lamp_2 5 rfl rfl)
theorem dX0_lamp_53 : decode cX0_lamp 53 = .ok (.istore 5, 2) := dk_54 5 (dk_at dksX0_lamp_2 6 rfl rfl)
theorem dX0_lamp_55 : decode cX0_lamp 55 = .ok (.bipush 20, 2) := dk_16 20 (dk_at dksX0_lamp_2 8 rfl rfl)
theorem dX0_lamp_57 : decode cX0_lamp 57 = .ok (.istore 6, 2) := dk_54 6 (dk_at dksX0_lamp_2 10 rfl rfl)
theorem dX0_lamp_59 : decode cX0_lamp 59 = .ok (.iload 6, 2) := dk_21 6 (dk_at dksX0_lamp_2 12 rfl rfl)
theorem dX0_lamp_61 : decode cX0_lamp 61 = .ok (.bipush 120, 2) := dk_16 120 (dk_at dksX0_lamp_2 14 rfl rfl)
theorem dX0_lamp_63 : decode cX0_lamp 63 = .ok (.if_icmp .gt 69, 3) := dk_163 0 69 (dk_at dksX0_lamp_2 16 rfl rfl)
theorem dX0_lamp_66 : decode cX0_lamp 66 = .ok (.iconst 5, 1) := dk_8 (dk_at dksX0_lamp_2 19 rfl rfl)
theorem dX0_lamp_67 : decode cX0_lamp 67 = .ok (.istore 7, 2) := dk_54 7 (dk_at dksX0_lamp_2 20 rfl rfl)
theorem dX0_lamp_69 : decode cX0_lamp 69 = .ok (.iload 7, 2) := dk_21 7 (dk_at dksX0_lamp_2 22 rfl rfl)
theorem dX0_lamp_71 : decode cX0_lamp 71 = .ok (.iload 6, 2) := dk_21 6 (dk_at dksX0_lamp_3 0 rfl rfl)
theorem dX0_lamp_73 : decode cX0_lamp 73 = .ok (.bipush 10, 2) := dk_16 10 (dk_at dksX0_lamp_3 2 rfl rfl)
theorem dX0_lamp_75 : decode cX0_lamp 75 = .ok (.isub, 1) := dk_100 (dk_at dksX0_lamp_3 4 rfl rfl)
theorem dX0_lamp_76 : decode cX0_lamp 76 = .ok (.if_icmp .gt 50, 3) := dk_163 0 50 (dk_at dksX0_lamp_3 5 rfl rfl)
theorem dX0_lamp_79 : decode cX0_lamp 79 = .ok (.iload_n 1, 1) := dk_27 (dk_at dksX0_lamp_3 8 rfl rfl)
theorem dX0_lamp_80 : decode cX0_lamp 80 = .ok (.iload_n 2, 1) := dk_28 (dk_at dksX0_lamp_3 9 rfl rfl)
theorem dX0_lamp_81 : decode cX0_lamp 81 = .ok (.iload 6, 2) := dk_21 6 (dk_at dksX0_lamp_3 10 rfl rfl)
theorem dX0_lamp_83 : decode cX0_lamp 83 = .ok (.iload 7, 2) := dk_21 7 (dk_at dksX0_lamp_3 12 rfl rfl)
theorem dX0_lamp_85 : decode cX0_lamp 85 = .ok (.invokestatic 455, 3) := dk_184 1 199 (dk_at dksX0_lamp_3 14 rfl rfl)
theorem dX0_lamp_88 : decode cX0_lamp 88 = .ok (.iload 4, 2) := dk_21 4 (dk_at dksX0_lamp_3 17 rfl rfl)
theorem dX0_lamp_90 : decode cX0_lamp 90 = .ok (.i2l, 1) := dk_133 (dk_at dksX0_lamp_3 19 rfl rfl)
theorem dX0_lamp_91 : decode cX0_lamp 91 = .ok (.lmul, 1) := dk_105 (dk_at dksX0_lamp_3 20 rfl rfl)
theorem dX0_lamp_92 : decode cX0_lamp 92 = .ok (.iload_n 1, 1) := dk_27 (dk_at dksX0_lamp_3 21 rfl rfl)
theorem dX0_lamp_93 : decode cX0_lamp 93 = .ok (.iload_n 2, 1) := dk_28 (dk_at dksX0_lamp_3 22 rfl rfl)
theorem dX0_lamp_94 : decode cX0_lamp 94 = .ok (.iload 4, 2) := dk_21 4 (dk_at dksX0_lamp_4 0 rfl rfl)
theorem dX0_lamp_96 : decode cX0_lamp 96 = .ok (.iload 5, 2) := dk_21 5 (dk_at dksX0_lamp_4 2 rfl rfl)
theorem dX0_lamp_98 : decode cX0_lamp 98 = .ok (.invokestatic 455, 3) := dk_184 1 199 (dk_at dksX0_lamp_4 4 rfl rfl)
theorem dX0_lamp_101 : decode cX0_lamp 101 = .ok (.iload 6, 2) := dk_21 6 (dk_at dksX0_lamp_4 7 rfl rfl)
theorem dX0_lamp_103 : decode cX0_lamp 103 = .ok (.i2l, 1) := dk_133 (dk_at dksX0_lamp_4 9 rfl rfl)
theorem dX0_lamp_104 : decode cX0_lamp 104 = .ok (.lmul, 1) := dk_105 (dk_at dksX0_lamp_4 10 rfl rfl)
theorem dX0_lamp_105 : decode cX0_lamp 105 = .ok (.lcmp, 1) := dk_148 (dk_at dksX0_lamp_4 11 rfl rfl)
theorem dX0_lamp_106 : decode cX0_lamp 106 = .ok (.ifCond .lt 6, 3) := dk_155 0 6 (dk_at dksX0_lamp_4 12 rfl rfl)
theorem dX0_lamp_109 : decode cX0_lamp 109 = .ok (.goto 11, 3) := dk_167 0 11 (dk_at dksX0_lamp_4 15 rfl rfl)
theorem dX0_lamp_112 : decode cX0_lamp 112 = .ok (.iload 6, 2) := dk_21 6 (dk_at dksX0_lamp_4 18 rfl rfl)
theorem dX0_lamp_114 : decode cX0_lamp 114 = .ok (.istore 4, 2) := dk_54 4 (dk_at dksX0_lamp_4 20 rfl rfl)
theorem dX0_lamp_116 : decode cX0_lamp 116 = .ok (.iload 7, 2) := dk_21 7 (dk_at dksX0_lamp_4 22 rfl rfl)
theorem dX0_lamp_118 : decode cX0_lamp 118 = .ok (.istore 5, 2) := dk_54 5 (dk_at dksX0_lamp_5 0 rfl rfl)
theorem dX0_lamp_120 : decode cX0_lamp 120 = .ok (.iinc 7 1, 3) := dk_132 7 1 (dk_at dksX0_lamp_5 2 rfl rfl)
theorem dX0_lamp_123 : decode cX0_lamp 123 = .ok (.goto (-54), 3) := dk_167 255 202 (dk_at dksX0_lamp_5 5 rfl rfl)
theorem dX0_lamp_126 : decode cX0_lamp 126 = .ok (.iinc 6 1, 3) := dk_132 6 1 (dk_at dksX0_lamp_5 8 rfl rfl)
theorem dX0_lamp_129 : decode cX0_lamp 129 = .ok (.goto (-70), 3) := dk_167 255 186 (dk_at dksX0_lamp_5 11 rfl rfl)
theorem dX0_lamp_132 : decode cX0_lamp 132 = .ok (.iload_n 3, 1) := dk_29 (dk_at dksX0_lamp_5 14 rfl rfl)
theorem dX0_lamp_133 : decode cX0_lamp 133 = .ok (.ifCond .ne 8, 3) := dk_154 0 8 (dk_at dksX0_lamp_5 15 rfl rfl)
theorem dX0_lamp_136 : decode cX0_lamp 136 = .ok (.iload 4, 2) := dk_21 4 (dk_at dksX0_lamp_5 18 rfl rfl)
theorem dX0_lamp_138 : decode cX0_lamp 138 = .ok (.goto 5, 3) := dk_167 0 5 (dk_at dksX0_lamp_5 20 rfl rfl)
theorem dX0_lamp_141 : decode cX0_lamp 141 = .ok (.iload 5, 2) := dk_21 5 (dk_at dksX0_lamp_6 0 rfl rfl)
theorem dX0_lamp_143 : decode cX0_lamp 143 = .ok (.ireturn, 1) := dk_172 (dk_at dksX0_lamp_6 2 rfl rfl)
abbrev cX0_waste : ByteArray := prog_1_method_73_code
def yX0_waste : MethodName := ⟨RX0, "waste", "(IIII)J"⟩
def dkwX0_waste_0 : List UInt8 := [26, 133, 29, 133, 105, 29, 133, 105, 27, 133, 28, 29, 100, 133, 105, 28, 29, 100, 133, 105, 97, 173]
abbrev dktX0_waste_0 : List UInt8 := dkwX0_waste_0 ++ []
theorem dksX0_waste_0 : cX0_waste.data.toList.drop 0 = dktX0_waste_0 := by decide +kernel
theorem dX0_waste_0 : decode cX0_waste 0 = .ok (.iload_n 0, 1) := dk_26 (dk_at dksX0_waste_0 0 rfl rfl)
theorem dX0_waste_1 : decode cX0_waste 1 = .ok (.i2l, 1) := dk_133 (dk_at dksX0_waste_0 1 rfl rfl)
theorem dX0_waste_2 : decode cX0_waste 2 = .ok (.iload_n 3, 1) := dk_29 (dk_at dksX0_waste_0 2 rfl rfl)
theorem dX0_waste_3 : decode cX0_waste 3 = .ok (.i2l, 1) := dk_133 (dk_at dksX0_waste_0 3 rfl rfl)
theorem dX0_waste_4 : decode cX0_waste 4 = .ok (.lmul, 1) := dk_105 (dk_at dksX0_waste_0 4 rfl rfl)
theorem dX0_waste_5 : decode cX0_waste 5 = .ok (.iload_n 3, 1) := dk_29 (dk_at dksX0_waste_0 5 rfl rfl)
theorem dX0_waste_6 : decode cX0_waste 6 = .ok (.i2l, 1) := dk_133 (dk_at dksX0_waste_0 6 rfl rfl)
theorem dX0_waste_7 : decode cX0_waste 7 = .ok (.lmul, 1) := dk_105 (dk_at dksX0_waste_0 7 rfl rfl)
theorem dX0_waste_8 : decode cX0_waste 8 = .ok (.iload_n 1, 1) := dk_27 (dk_at dksX0_waste_0 8 rfl rfl)
theorem dX0_waste_9 : decode cX0_waste 9 = .ok (.i2l, 1) := dk_133 (dk_at dksX0_waste_0 9 rfl rfl)
theorem dX0_waste_10 : decode cX0_waste 10 = .ok (.iload_n 2, 1) := dk_28 (dk_at dksX0_waste_0 10 rfl rfl)
theorem dX0_waste_11 : decode cX0_waste 11 = .ok (.iload_n 3, 1) := dk_29 (dk_at dksX0_waste_0 11 rfl rfl)
theorem dX0_waste_12 : decode cX0_waste 12 = .ok (.isub, 1) := dk_100 (dk_at dksX0_waste_0 12 rfl rfl)
theorem dX0_waste_13 : decode cX0_waste 13 = .ok (.i2l, 1) := dk_133 (dk_at dksX0_waste_0 13 rfl rfl)
theorem dX0_waste_14 : decode cX0_waste 14 = .ok (.lmul, 1) := dk_105 (dk_at dksX0_waste_0 14 rfl rfl)
theorem dX0_waste_15 : decode cX0_waste 15 = .ok (.iload_n 2, 1) := dk_28 (dk_at dksX0_waste_0 15 rfl rfl)
theorem dX0_waste_16 : decode cX0_waste 16 = .ok (.iload_n 3, 1) := dk_29 (dk_at dksX0_waste_0 16 rfl rfl)
theorem dX0_waste_17 : decode cX0_waste 17 = .ok (.isub, 1) := dk_100 (dk_at dksX0_waste_0 17 rfl rfl)
theorem dX0_waste_18 : decode cX0_waste 18 = .ok (.i2l, 1) := dk_133 (dk_at dksX0_waste_0 18 rfl rfl)
theorem dX0_waste_19 : decode cX0_waste 19 = .ok (.lmul, 1) := dk_105 (dk_at dksX0_waste_0 19 rfl rfl)
theorem dX0_waste_20 : decode cX0_waste 20 = .ok (.ladd, 1) := dk_97 (dk_at dksX0_waste_0 20 rfl rfl)
theorem dX0_waste_21 : decode cX0_waste 21 = .ok (.lreturn, 1) := dk_173 (dk_at dksX0_waste_0 21 rfl rfl)
abbrev cX0_pay : ByteArray := prog_1_method_76_code
def yX0_pay : MethodName := ⟨RX0, "pay", "(IIII)I"⟩
def dkwX0_pay_3 : List UInt8 := [42, 180, 0, 10, 180, 1, 205, 27, 28, 29, 184, 1, 208, 21, 4, 79, 21, 5, 172]
abbrev dktX0_pay_3 : List UInt8 := dkwX0_pay_3 ++ []
def dkwX0_pay_2 : List UInt8 := [42, 17, 252, 24, 182, 0, 73, 172, 42, 180, 0, 10, 180, 1, 205, 27, 28, 29, 184, 1, 208, 46, 54, 5]
abbrev dktX0_pay_2 : List UInt8 := dkwX0_pay_2 ++ dktX0_pay_3
def dkwX0_pay_1 : List UInt8 := [20, 1, 175, 184, 0, 81, 153, 0, 18, 21, 4, 133, 20, 1, 203, 20, 0, 247, 184, 0, 81, 154, 0, 11]
abbrev dktX0_pay_1 : List UInt8 := dkwX0_pay_1 ++ dktX0_pay_2
def dkwX0_pay_0 : List UInt8 := [27, 133, 9, 10, 184, 0, 81, 153, 0, 40, 28, 133, 9, 10, 184, 0, 81, 153, 0, 30, 29, 133, 9]
abbrev dktX0_pay_0 : List UInt8 := dkwX0_pay_0 ++ dktX0_pay_1
theorem dksX0_pay_0 : cX0_pay.data.toList.drop 0 = dktX0_pay_0 := by decide +kernel
theorem dksX0_pay_1 : cX0_pay.data.toList.drop 23 = dktX0_pay_1 := dk_seg dksX0_pay_0 23 rfl rfl
theorem dksX0_pay_2 : cX0_pay.data.toList.drop 47 = dktX0_pay_2 := dk_seg dksX0_pay_1 24 rfl rfl
theorem dksX0_pay_3 : cX0_pay.data.toList.drop 71 = dktX0_pay_3 := dk_seg dksX0_pay_2 24 rfl rfl
theorem dX0_pay_0 : decode cX0_pay 0 = .ok (.iload_n 1, 1) := dk_27 (dk_at dksX0_pay_0 0 rfl rfl)
theorem dX0_pay_1 : decode cX0_pay 1 = .ok (.i2l, 1) := dk_133 (dk_at dksX0_pay_0 1 rfl rfl)
theorem dX0_pay_2 : decode cX0_pay 2 = .ok (.lconst 0, 1) := dk_9 (dk_at dksX0_pay_0 2 rfl rfl)
theorem dX0_pay_3 : decode cX0_pay 3 = .ok (.lconst 1, 1) := dk_10 (dk_at dksX0_pay_0 3 rfl rfl)
theorem dX0_pay_4 : decode cX0_pay 4 = .ok (.invokestatic 81, 3) := dk_184 0 81 (dk_at dksX0_pay_0 4 rfl rfl)
theorem dX0_pay_7 : decode cX0_pay 7 = .ok (.ifCond .eq 40, 3) := dk_153 0 40 (dk_at dksX0_pay_0 7 rfl rfl)
theorem dX0_pay_10 : decode cX0_pay 10 = .ok (.iload_n 2, 1) := dk_28 (dk_at dksX0_pay_0 10 rfl rfl)
theorem dX0_pay_11 : decode cX0_pay 11 = .ok (.i2l, 1) := dk_133 (dk_at dksX0_pay_0 11 rfl rfl)
theorem dX0_pay_12 : decode cX0_pay 12 = .ok (.lconst 0, 1) := dk_9 (dk_at dksX0_pay_0 12 rfl rfl)
theorem dX0_pay_13 : decode cX0_pay 13 = .ok (.lconst 1, 1) := dk_10 (dk_at dksX0_pay_0 13 rfl rfl)
theorem dX0_pay_14 : decode cX0_pay 14 = .ok (.invokestatic 81, 3) := dk_184 0 81 (dk_at dksX0_pay_0 14 rfl rfl)
theorem dX0_pay_17 : decode cX0_pay 17 = .ok (.ifCond .eq 30, 3) := dk_153 0 30 (dk_at dksX0_pay_0 17 rfl rfl)
theorem dX0_pay_20 : decode cX0_pay 20 = .ok (.iload_n 3, 1) := dk_29 (dk_at dksX0_pay_0 20 rfl rfl)
theorem dX0_pay_21 : decode cX0_pay 21 = .ok (.i2l, 1) := dk_133 (dk_at dksX0_pay_0 21 rfl rfl)
theorem dX0_pay_22 : decode cX0_pay 22 = .ok (.lconst 0, 1) := dk_9 (dk_at dksX0_pay_0 22 rfl rfl)
theorem dX0_pay_23 : decode cX0_pay 23 = .ok (.ldc2_w 431, 3) := dk_20 1 175 (dk_at dksX0_pay_1 0 rfl rfl)
theorem dX0_pay_26 : decode cX0_pay 26 = .ok (.invokestatic 81, 3) := dk_184 0 81 (dk_at dksX0_pay_1 3 rfl rfl)
theorem dX0_pay_29 : decode cX0_pay 29 = .ok (.ifCond .eq 18, 3) := dk_153 0 18 (dk_at dksX0_pay_1 6 rfl rfl)
theorem dX0_pay_32 : decode cX0_pay 32 = .ok (.iload 4, 2) := dk_21 4 (dk_at dksX0_pay_1 9 rfl rfl)
theorem dX0_pay_34 : decode cX0_pay 34 = .ok (.i2l, 1) := dk_133 (dk_at dksX0_pay_1 11 rfl rfl)
theorem dX0_pay_35 : decode cX0_pay 35 = .ok (.ldc2_w 459, 3) := dk_20 1 203 (dk_at dksX0_pay_1 12 rfl rfl)
theorem dX0_pay_38 : decode cX0_pay 38 = .ok (.ldc2_w 247, 3) := dk_20 0 247 (dk_at dksX0_pay_1 15 rfl rfl)
theorem dX0_pay_41 : decode cX0_pay 41 = .ok (.invokestatic 81, 3) := dk_184 0 81 (dk_at dksX0_pay_1 18 rfl rfl)
theorem dX0_pay_44 : decode cX0_pay 44 = .ok (.ifCond .ne 11, 3) := dk_154 0 11 (dk_at dksX0_pay_1 21 rfl rfl)
theorem dX0_pay_47 : decode cX0_pay 47 = .ok (.aload_n 0, 1) := dk_42 (dk_at dksX0_pay_2 0 rfl rfl)
theorem dX0_pay_48 : decode cX0_pay 48 = .ok (.sipush (-1000), 3) := dk_17 252 24 (dk_at dksX0_pay_2 1 rfl rfl)
theorem dX0_pay_51 : decode cX0_pay 51 = .ok (.invokevirtual 73, 3) := dk_182 0 73 (dk_at dksX0_pay_2 4 rfl rfl)
theorem dX0_pay_54 : decode cX0_pay 54 = .ok (.ireturn, 1) := dk_172 (dk_at dksX0_pay_2 7 rfl rfl)
theorem dX0_pay_55 : decode cX0_pay 55 = .ok (.aload_n 0, 1) := dk_42 (dk_at dksX0_pay_2 8 rfl rfl)
theorem dX0_pay_56 : decode cX0_pay 56 = .ok (.getfield 10, 3) := dk_180 0 10 (dk_at dksX0_pay_2 9 rfl rfl)
theorem dX0_pay_59 : decode cX0_pay 59 = .ok (.getfield 461, 3) := dk_180 1 205 (dk_at dksX0_pay_2 12 rfl rfl)
theorem dX0_pay_62 : decode cX0_pay 62 = .ok (.iload_n 1, 1) := dk_27 (dk_at dksX0_pay_2 15 rfl rfl)
theorem dX0_pay_63 : decode cX0_pay 63 = .ok (.iload_n 2, 1) := dk_28 (dk_at dksX0_pay_2 16 rfl rfl)
theorem dX0_pay_64 : decode cX0_pay 64 = .ok (.iload_n 3, 1) := dk_29 (dk_at dksX0_pay_2 17 rfl rfl)
theorem dX0_pay_65 : decode cX0_pay 65 = .ok (.invokestatic 464, 3) := dk_184 1 208 (dk_at dksX0_pay_2 18 rfl rfl)
theorem dX0_pay_68 : decode cX0_pay 68 = .ok (.iaload, 1) := dk_46 (dk_at dksX0_pay_2 21 rfl rfl)
theorem dX0_pay_69 : decode cX0_pay 69 = .ok (.istore 5, 2) := dk_54 5 (dk_at dksX0_pay_2 22 rfl rfl)
theorem dX0_pay_71 : decode cX0_pay 71 = .ok (.aload_n 0, 1) := dk_42 (dk_at dksX0_pay_3 0 rfl rfl)
theorem dX0_pay_72 : decode cX0_pay 72 = .ok (.getfield 10, 3) := dk_180 0 10 (dk_at dksX0_pay_3 1 rfl rfl)
theorem dX0_pay_75 : decode cX0_pay 75 = .ok (.getfield 461, 3) := dk_180 1 205 (dk_at dksX0_pay_3 4 rfl rfl)
theorem dX0_pay_78 : decode cX0_pay 78 = .ok (.iload_n 1, 1) := dk_27 (dk_at dksX0_pay_3 7 rfl rfl)
theorem dX0_pay_79 : decode cX0_pay 79 = .ok (.iload_n 2, 1) := dk_28 (dk_at dksX0_pay_3 8 rfl rfl)
theorem dX0_pay_80 : decode cX0_pay 80 = .ok (.iload_n 3, 1) := dk_29 (dk_at dksX0_pay_3 9 rfl rfl)
theorem dX0_pay_81 : decode cX0_pay 81 = .ok (.invokestatic 464, 3) := dk_184 1 208 (dk_at dksX0_pay_3 10 rfl rfl)
theorem dX0_pay_84 : decode cX0_pay 84 = .ok (.iload 4, 2) := dk_21 4 (dk_at dksX0_pay_3 13 rfl rfl)
theorem dX0_pay_86 : decode cX0_pay 86 = .ok (.iastore, 1) := dk_79 (dk_at dksX0_pay_3 15 rfl rfl)
theorem dX0_pay_87 : decode cX0_pay 87 = .ok (.iload 5, 2) := dk_21 5 (dk_at dksX0_pay_3 16 rfl rfl)
theorem dX0_pay_89 : decode cX0_pay 89 = .ok (.ireturn, 1) := dk_172 (dk_at dksX0_pay_3 18 rfl rfl)
abbrev cX0_payAt : ByteArray := prog_1_method_75_code
def yX0_payAt : MethodName := ⟨RX0, "payAt", "(III)I"⟩
def dkwX0_payAt_0 : List UInt8 := [8, 5, 26, 104, 27, 96, 104, 28, 96, 172]
abbrev dktX0_payAt_0 : List UInt8 := dkwX0_payAt_0 ++ []
theorem dksX0_payAt_0 : cX0_payAt.data.toList.drop 0 = dktX0_payAt_0 := by decide +kernel
theorem dX0_payAt_0 : decode cX0_payAt 0 = .ok (.iconst 5, 1) := dk_8 (dk_at dksX0_payAt_0 0 rfl rfl)
theorem dX0_payAt_1 : decode cX0_payAt 1 = .ok (.iconst 2, 1) := dk_5 (dk_at dksX0_payAt_0 1 rfl rfl)
theorem dX0_payAt_2 : decode cX0_payAt 2 = .ok (.iload_n 0, 1) := dk_26 (dk_at dksX0_payAt_0 2 rfl rfl)
theorem dX0_payAt_3 : decode cX0_payAt 3 = .ok (.imul, 1) := dk_104 (dk_at dksX0_payAt_0 3 rfl rfl)
theorem dX0_payAt_4 : decode cX0_payAt 4 = .ok (.iload_n 1, 1) := dk_27 (dk_at dksX0_payAt_0 4 rfl rfl)
theorem dX0_payAt_5 : decode cX0_payAt 5 = .ok (.iadd, 1) := dk_96 (dk_at dksX0_payAt_0 5 rfl rfl)
theorem dX0_payAt_6 : decode cX0_payAt 6 = .ok (.imul, 1) := dk_104 (dk_at dksX0_payAt_0 6 rfl rfl)
theorem dX0_payAt_7 : decode cX0_payAt 7 = .ok (.iload_n 2, 1) := dk_28 (dk_at dksX0_payAt_0 7 rfl rfl)
theorem dX0_payAt_8 : decode cX0_payAt 8 = .ok (.iadd, 1) := dk_96 (dk_at dksX0_payAt_0 8 rfl rfl)
theorem dX0_payAt_9 : decode cX0_payAt 9 = .ok (.ireturn, 1) := dk_172 (dk_at dksX0_payAt_0 9 rfl rfl)
abbrev cX0_rests : ByteArray := prog_1_method_78_code
def yX0_rests : MethodName := ⟨RX0, "rests", "(III)I"⟩
def dkwX0_rests_6 : List UInt8 := [154, 0, 8, 21, 4, 167, 0, 5, 21, 5, 172]
abbrev dktX0_rests_6 : List UInt8 := dkwX0_rests_6 ++ []
def dkwX0_rests_5 : List UInt8 := [21, 7, 96, 167, 0, 5, 21, 5, 54, 5, 132, 7, 1, 167, 255, 194, 132, 6, 1, 167, 255, 179, 29]
abbrev dktX0_rests_5 : List UInt8 := dkwX0_rests_5 ++ dktX0_rests_6
def dkwX0_rests_4 : List UInt8 := [182, 1, 212, 154, 0, 6, 167, 0, 27, 132, 4, 1, 21, 5, 2, 160, 0, 14, 16, 10, 21, 6, 104]
abbrev dktX0_rests_4 : List UInt8 := dkwX0_rests_4 ++ dktX0_rests_5
def dkwX0_rests_3 : List UInt8 := [163, 0, 62, 42, 3, 21, 6, 27, 21, 7, 182, 1, 212, 153, 0, 43, 42, 4, 21, 7, 28, 21, 6]
abbrev dktX0_rests_3 : List UInt8 := dkwX0_rests_3 ++ dktX0_rests_4
def dkwX0_rests_2 : List UInt8 := [172, 3, 54, 4, 2, 54, 5, 3, 54, 6, 21, 6, 27, 163, 0, 77, 3, 54, 7, 21, 7, 28]
abbrev dktX0_rests_2 : List UInt8 := dkwX0_rests_2 ++ dktX0_rests_3
def dkwX0_rests_1 : List UInt8 := [184, 0, 81, 153, 0, 15, 28, 133, 9, 20, 1, 175, 184, 0, 81, 154, 0, 10, 42, 16, 253, 182, 0, 73]
abbrev dktX0_rests_1 : List UInt8 := dkwX0_rests_1 ++ dktX0_rests_2
def dkwX0_rests_0 : List UInt8 := [29, 133, 9, 10, 184, 0, 81, 154, 0, 10, 42, 16, 254, 182, 0, 73, 172, 27, 133, 9, 20, 1, 175]
abbrev dktX0_rests_0 : List UInt8 := dkwX0_rests_0 ++ dktX0_rests_1
theorem dksX0_rests_0 : cX0_rests.data.toList.drop 0 = dktX0_rests_0 := by decide +kernel
theorem dksX0_rests_1 : cX0_rests.data.toList.drop 23 = dktX0_rests_1 := dk_seg dksX0_rests_0 23 rfl rfl
theorem dksX0_rests_2 : cX0_rests.data.toList.drop 47 = dktX0_rests_2 := dk_seg dksX0_rests_1 24 rfl rfl
theorem dksX0_rests_3 : cX0_rests.data.toList.drop 69 = dktX0_rests_3 := dk_seg dksX0_rests_2 22 rfl rfl
theorem dksX0_rests_4 : cX0_rests.data.toList.drop 92 = dktX0_rests_4 := dk_seg dksX0_rests_3 23 rfl rfl
theorem dksX0_rests_5 : cX0_rests.data.toList.drop 115 = dktX0_rests_5 := dk_seg dksX0_rests_4 23 rfl rfl
theorem dksX0_rests_6 : cX0_rests.data.toList.drop 138 = dktX0_rests_6 := dk_seg dksX0_rests_5 23 rfl rfl
theorem dX0_rests_0 : decode cX0_rests 0 = .ok (.iload_n 3, 1) := dk_29 (dk_at dksX0_rests_0 0 rfl rfl)
theorem dX0_rests_1 : decode cX0_rests 1 = .ok (.i2l, 1) := dk_133 (dk_at dksX0_rests_0 1 rfl rfl)
theorem dX0_rests_2 : decode cX0_rests 2 = .ok (.lconst 0, 1) := dk_9 (dk_at dksX0_rests_0 2 rfl rfl)
theorem dX0_rests_3 : decode cX0_rests 3 = .ok (.lconst 1, 1) := dk_10 (dk_at dksX0_rests_0 3 rfl rfl)
theorem dX0_rests_4 : decode cX0_rests 4 = .ok (.invokestatic 81, 3) := dk_184 0 81 (dk_at dksX0_rests_0 4 rfl rfl)
theorem dX0_rests_7 : decode cX0_rests 7 = .ok (.ifCond .ne 10, 3) := dk_154 0 10 (dk_at dksX0_rests_0 7 rfl rfl)
theorem dX0_rests_10 : decode cX0_rests 10 = .ok (.aload_n 0, 1) := dk_42 (dk_at dksX0_rests_0 10 rfl rfl)
theorem dX0_rests_11 : decode cX0_rests 11 = .ok (.bipush (-2), 2) := dk_16 254 (dk_at dksX0_rests_0 11 rfl rfl)
theorem dX0_rests_13 : decode cX0_rests 13 = .ok (.invokevirtual 73, 3) := dk_182 0 73 (dk_at dksX0_rests_0 13 rfl rfl)
theorem dX0_rests_16 : decode cX0_rests 16 = .ok (.ireturn, 1) := dk_172 (dk_at dksX0_rests_0 16 rfl rfl)
theorem dX0_rests_17 : decode cX0_rests 17 = .ok (.iload_n 1, 1) := dk_27 (dk_at dksX0_rests_0 17 rfl rfl)
theorem dX0_rests_18 : decode cX0_rests 18 = .ok (.i2l, 1) := dk_133 (dk_at dksX0_rests_0 18 rfl rfl)
theorem dX0_rests_19 : decode cX0_rests 19 = .ok (.lconst 0, 1) := dk_9 (dk_at dksX0_rests_0 19 rfl rfl)
theorem dX0_rests_20 : decode cX0_rests 20 = .ok (.ldc2_w 431, 3) := dk_20 1 175 (dk_at dksX0_rests_0 20 rfl rfl)
theorem dX0_rests_23 : decode cX0_rests 23 = .ok (.invokestatic 81, 3) := dk_184 0 81 (dk_at dksX0_rests_1 0 rfl rfl)
theorem dX0_rests_26 : decode cX0_rests 26 = .ok (.ifCond .eq 15, 3) := dk_153 0 15 (dk_at dksX0_rests_1 3 rfl rfl)
theorem dX0_rests_29 : decode cX0_rests 29 = .ok (.iload_n 2, 1) := dk_28 (dk_at dksX0_rests_1 6 rfl rfl)
theorem dX0_rests_30 : decode cX0_rests 30 = .ok (.i2l, 1) := dk_133 (dk_at dksX0_rests_1 7 rfl rfl)
theorem dX0_rests_31 : decode cX0_rests 31 = .ok (.lconst 0, 1) := dk_9 (dk_at dksX0_rests_1 8 rfl rfl)
theorem dX0_rests_32 : decode cX0_rests 32 = .ok (.ldc2_w 431, 3) := dk_20 1 175 (dk_at dksX0_rests_1 9 rfl rfl)
theorem dX0_rests_35 : decode cX0_rests 35 = .ok (.invokestatic 81, 3) := dk_184 0 81 (dk_at dksX0_rests_1 12 rfl rfl)
theorem dX0_rests_38 : decode cX0_rests 38 = .ok (.ifCond .ne 10, 3) := dk_154 0 10 (dk_at dksX0_rests_1 15 rfl rfl)
theorem dX0_rests_41 : decode cX0_rests 41 = .ok (.aload_n 0, 1) := dk_42 (dk_at dksX0_rests_1 18 rfl rfl)
theorem dX0_rests_42 : decode cX0_rests 42 = .ok (.bipush (-3), 2) := dk_16 253 (dk_at dksX0_rests_1 19 rfl rfl)
theorem dX0_rests_44 : decode cX0_rests 44 = .ok (.invokevirtual 73, 3) := dk_182 0 73 (dk_at dksX0_rests_1 21 rfl rfl)
theorem dX0_rests_47 : decode cX0_rests 47 = .ok (.ireturn, 1) := dk_172 (dk_at dksX0_rests_2 0 rfl rfl)
theorem dX0_rests_48 : decode cX0_rests 48 = .ok (.iconst 0, 1) := dk_3 (dk_at dksX0_rests_2 1 rfl rfl)
theorem dX0_rests_49 : decode cX0_rests 49 = .ok (.istore 4, 2) := dk_54 4 (dk_at dksX0_rests_2 2 rfl rfl)
theorem dX0_rests_51 : decode cX0_rests 51 = .ok (.iconst (-1), 1) := dk_2 (dk_at dksX0_rests_2 4 rfl rfl)
theorem dX0_rests_52 : decode cX0_rests 52 = .ok (.istore 5, 2) := dk_54 5 (dk_at dksX0_rests_2 5 rfl rfl)
theorem dX0_rests_54 : decode cX0_rests 54 = .ok (.iconst 0, 1) := dk_3 (dk_at dksX0_rests_2 7 rfl rfl)
theorem dX0_rests_55 : decode cX0_rests 55 = .ok (.istore 6, 2) := dk_54 6 (dk_at dksX0_rests_2 8 rfl rfl)
theorem dX0_rests_57 : decode cX0_rests 57 = .ok (.iload 6, 2) := dk_21 6 (dk_at dksX0_rests_2 10 rfl rfl)
theorem dX0_rests_59 : decode cX0_rests 59 = .ok (.iload_n 1, 1) := dk_27 (dk_at dksX0_rests_2 12 rfl rfl)
theorem dX0_rests_60 : decode cX0_rests 60 = .ok (.if_icmp .gt 77, 3) := dk_163 0 77 (dk_at dksX0_rests_2 13 rfl rfl)
theorem dX0_rests_63 : decode cX0_rests 63 = .ok (.iconst 0, 1) := dk_3 (dk_at dksX0_rests_2 16 rfl rfl)
theorem dX0_rests_64 : decode cX0_rests 64 = .ok (.istore 7, 2) := dk_54 7 (dk_at dksX0_rests_2 17 rfl rfl)
theorem dX0_rests_66 : decode cX0_rests 66 = .ok (.iload 7, 2) := dk_21 7 (dk_at dksX0_rests_2 19 rfl rfl)
theorem dX0_rests_68 : decode cX0_rests 68 = .ok (.iload_n 2, 1) := dk_28 (dk_at dksX0_rests_2 21 rfl rfl)
theorem dX0_rests_69 : decode cX0_rests 69 = .ok (.if_icmp .gt 62, 3) := dk_163 0 62 (dk_at dksX0_rests_3 0 rfl rfl)
theorem dX0_rests_72 : decode cX0_rests 72 = .ok (.aload_n 0, 1) := dk_42 (dk_at dksX0_rests_3 3 rfl rfl)
theorem dX0_rests_73 : decode cX0_rests 73 = .ok (.iconst 0, 1) := dk_3 (dk_at dksX0_rests_3 4 rfl rfl)
theorem dX0_rests_74 : decode cX0_rests 74 = .ok (.iload 6, 2) := dk_21 6 (dk_at dksX0_rests_3 5 rfl rfl)
theorem dX0_rests_76 : decode cX0_rests 76 = .ok (.iload_n 1, 1) := dk_27 (dk_at dksX0_rests_3 7 rfl rfl)
theorem dX0_rests_77 : decode cX0_rests 77 = .ok (.iload 7, 2) := dk_21 7 (dk_at dksX0_rests_3 8 rfl rfl)
theorem dX0_rests_79 : decode cX0_rests 79 = .ok (.invokevirtual 468, 3) := dk_182 1 212 (dk_at dksX0_rests_3 10 rfl rfl)
theorem dX0_rests_82 : decode cX0_rests 82 = .ok (.ifCond .eq 43, 3) := dk_153 0 43 (dk_at dksX0_rests_3 13 rfl rfl)
theorem dX0_rests_85 : decode cX0_rests 85 = .ok (.aload_n 0, 1) := dk_42 (dk_at dksX0_rests_3 16 rfl rfl)
theorem dX0_rests_86 : decode cX0_rests 86 = .ok (.iconst 1, 1) := dk_4 (dk_at dksX0_rests_3 17 rfl rfl)
theorem dX0_rests_87 : decode cX0_rests 87 = .ok (.iload 7, 2) := dk_21 7 (dk_at dksX0_rests_3 18 rfl rfl)
theorem dX0_rests_89 : decode cX0_rests 89 = .ok (.iload_n 2, 1) := dk_28 (dk_at dksX0_rests_3 20 rfl rfl)
theorem dX0_rests_90 : decode cX0_rests 90 = .ok (.iload 6, 2) := dk_21 6 (dk_at dksX0_rests_3 21 rfl rfl)
theorem dX0_rests_92 : decode cX0_rests 92 = .ok (.invokevirtual 468, 3) := dk_182 1 212 (dk_at dksX0_rests_4 0 rfl rfl)
theorem dX0_rests_95 : decode cX0_rests 95 = .ok (.ifCond .ne 6, 3) := dk_154 0 6 (dk_at dksX0_rests_4 3 rfl rfl)
theorem dX0_rests_98 : decode cX0_rests 98 = .ok (.goto 27, 3) := dk_167 0 27 (dk_at dksX0_rests_4 6 rfl rfl)
theorem dX0_rests_101 : decode cX0_rests 101 = .ok (.iinc 4 1, 3) := dk_132 4 1 (dk_at dksX0_rests_4 9 rfl rfl)
theorem dX0_rests_104 : decode cX0_rests 104 = .ok (.iload 5, 2) := dk_21 5 (dk_at dksX0_rests_4 12 rfl rfl)
theorem dX0_rests_106 : decode cX0_rests 106 = .ok (.iconst (-1), 1) := dk_2 (dk_at dksX0_rests_4 14 rfl rfl)
theorem dX0_rests_107 : decode cX0_rests 107 = .ok (.if_icmp .ne 14, 3) := dk_160 0 14 (dk_at dksX0_rests_4 15 rfl rfl)
theorem dX0_rests_110 : decode cX0_rests 110 = .ok (.bipush 10, 2) := dk_16 10 (dk_at dksX0_rests_4 18 rfl rfl)
theorem dX0_rests_112 : decode cX0_rests 112 = .ok (.iload 6, 2) := dk_21 6 (dk_at dksX0_rests_4 20 rfl rfl)
theorem dX0_rests_114 : decode cX0_rests 114 = .ok (.imul, 1) := dk_104 (dk_at dksX0_rests_4 22 rfl rfl)
theorem dX0_rests_115 : decode cX0_rests 115 = .ok (.iload 7, 2) := dk_21 7 (dk_at dksX0_rests_5 0 rfl rfl)
theorem dX0_rests_117 : decode cX0_rests 117 = .ok (.iadd, 1) := dk_96 (dk_at dksX0_rests_5 2 rfl rfl)
theorem dX0_rests_118 : decode cX0_rests 118 = .ok (.goto 5, 3) := dk_167 0 5 (dk_at dksX0_rests_5 3 rfl rfl)
theorem dX0_rests_121 : decode cX0_rests 121 = .ok (.iload 5, 2) := dk_21 5 (dk_at dksX0_rests_5 6 rfl rfl)
theorem dX0_rests_123 : decode cX0_rests 123 = .ok (.istore 5, 2) := dk_54 5 (dk_at dksX0_rests_5 8 rfl rfl)
theorem dX0_rests_125 : decode cX0_rests 125 = .ok (.iinc 7 1, 3) := dk_132 7 1 (dk_at dksX0_rests_5 10 rfl rfl)
theorem dX0_rests_128 : decode cX0_rests 128 = .ok (.goto (-62), 3) := dk_167 255 194 (dk_at dksX0_rests_5 13 rfl rfl)
theorem dX0_rests_131 : decode cX0_rests 131 = .ok (.iinc 6 1, 3) := dk_132 6 1 (dk_at dksX0_rests_5 16 rfl rfl)
theorem dX0_rests_134 : decode cX0_rests 134 = .ok (.goto (-77), 3) := dk_167 255 179 (dk_at dksX0_rests_5 19 rfl rfl)
theorem dX0_rests_137 : decode cX0_rests 137 = .ok (.iload_n 3, 1) := dk_29 (dk_at dksX0_rests_5 22 rfl rfl)
theorem dX0_rests_138 : decode cX0_rests 138 = .ok (.ifCond .ne 8, 3) := dk_154 0 8 (dk_at dksX0_rests_6 0 rfl rfl)
theorem dX0_rests_141 : decode cX0_rests 141 = .ok (.iload 4, 2) := dk_21 4 (dk_at dksX0_rests_6 3 rfl rfl)
theorem dX0_rests_143 : decode cX0_rests 143 = .ok (.goto 5, 3) := dk_167 0 5 (dk_at dksX0_rests_6 5 rfl rfl)
theorem dX0_rests_146 : decode cX0_rests 146 = .ok (.iload 5, 2) := dk_21 5 (dk_at dksX0_rests_6 8 rfl rfl)
theorem dX0_rests_148 : decode cX0_rests 148 = .ok (.ireturn, 1) := dk_172 (dk_at dksX0_rests_6 10 rfl rfl)
abbrev cX0_isContent : ByteArray := prog_1_method_77_code
def yX0_isContent : MethodName := ⟨RX0, "isContent", "(IIII)Z"⟩
def dkwX0_isContent_2 : List UInt8 := [159, 0, 10, 21, 6, 21, 5, 161, 0, 7, 4, 167, 0, 4, 3, 172]
abbrev dktX0_isContent_2 : List UInt8 := dkwX0_isContent_2 ++ []
def dkwX0_isContent_1 : List UInt8 := [27, 3, 21, 4, 184, 1, 208, 46, 54, 6, 28, 153, 0, 10, 21, 5, 21, 6, 161, 0, 19, 28, 29]
abbrev dktX0_isContent_1 : List UInt8 := dkwX0_isContent_1 ++ dktX0_isContent_2
def dkwX0_isContent_0 : List UInt8 := [42, 180, 0, 10, 180, 1, 205, 27, 4, 21, 4, 184, 1, 208, 46, 54, 5, 42, 180, 0, 10, 180, 1, 205]
abbrev dktX0_isContent_0 : List UInt8 := dkwX0_isContent_0 ++ dktX0_isContent_1
theorem dksX0_isContent_0 : cX0_isContent.data.toList.drop 0 = dktX0_isContent_0 := by decide +kernel
theorem dksX0_isContent_1 : cX0_isContent.data.toList.drop 24 = dktX0_isContent_1 := dk_seg dksX0_isContent_0 24 rfl rfl
theorem dksX0_isContent_2 : cX0_isContent.data.toList.drop 47 = dktX0_isContent_2 := dk_seg dksX0_isContent_1 23 rfl rfl
theorem dX0_isContent_0 : decode cX0_isContent 0 = .ok (.aload_n 0, 1) := dk_42 (dk_at dksX0_isContent_0 0 rfl rfl)
theorem dX0_isContent_1 : decode cX0_isContent 1 = .ok (.getfield 10, 3) := dk_180 0 10 (dk_at dksX0_isContent_0 1 rfl rfl)
theorem dX0_isContent_4 : decode cX0_isContent 4 = .ok (.getfield 461, 3) := dk_180 1 205 (dk_at dksX0_isContent_0 4 rfl rfl)
theorem dX0_isContent_7 : decode cX0_isContent 7 = .ok (.iload_n 1, 1) := dk_27 (dk_at dksX0_isContent_0 7 rfl rfl)
theorem dX0_isContent_8 : decode cX0_isContent 8 = .ok (.iconst 1, 1) := dk_4 (dk_at dksX0_isContent_0 8 rfl rfl)
theorem dX0_isContent_9 : decode cX0_isContent 9 = .ok (.iload 4, 2) := dk_21 4 (dk_at dksX0_isContent_0 9 rfl rfl)
theorem dX0_isContent_11 : decode cX0_isContent 11 = .ok (.invokestatic 464, 3) := dk_184 1 208 (dk_at dksX0_isContent_0 11 rfl rfl)
theorem dX0_isContent_14 : decode cX0_isContent 14 = .ok (.iaload, 1) := dk_46 (dk_at dksX0_isContent_0 14 rfl rfl)
theorem dX0_isContent_15 : decode cX0_isContent 15 = .ok (.istore 5, 2) := dk_54 5 (dk_at dksX0_isContent_0 15 rfl rfl)
theorem dX0_isContent_17 : decode cX0_isContent 17 = .ok (.aload_n 0, 1) := dk_42 (dk_at dksX0_isContent_0 17 rfl rfl)
theorem dX0_isContent_18 : decode cX0_isContent 18 = .ok (.getfield 10, 3) := dk_180 0 10 (dk_at dksX0_isContent_0 18 rfl rfl)
theorem dX0_isContent_21 : decode cX0_isContent 21 = .ok (.getfield 461, 3) := dk_180 1 205 (dk_at dksX0_isContent_0 21 rfl rfl)
theorem dX0_isContent_24 : decode cX0_isContent 24 = .ok (.iload_n 1, 1) := dk_27 (dk_at dksX0_isContent_1 0 rfl rfl)
theorem dX0_isContent_25 : decode cX0_isContent 25 = .ok (.iconst 0, 1) := dk_3 (dk_at dksX0_isContent_1 1 rfl rfl)
theorem dX0_isContent_26 : decode cX0_isContent 26 = .ok (.iload 4, 2) := dk_21 4 (dk_at dksX0_isContent_1 2 rfl rfl)
theorem dX0_isContent_28 : decode cX0_isContent 28 = .ok (.invokestatic 464, 3) := dk_184 1 208 (dk_at dksX0_isContent_1 4 rfl rfl)
theorem dX0_isContent_31 : decode cX0_isContent 31 = .ok (.iaload, 1) := dk_46 (dk_at dksX0_isContent_1 7 rfl rfl)
theorem dX0_isContent_32 : decode cX0_isContent 32 = .ok (.istore 6, 2) := dk_54 6 (dk_at dksX0_isContent_1 8 rfl rfl)
theorem dX0_isContent_34 : decode cX0_isContent 34 = .ok (.iload_n 2, 1) := dk_28 (dk_at dksX0_isContent_1 10 rfl rfl)
theorem dX0_isContent_35 : decode cX0_isContent 35 = .ok (.ifCond .eq 10, 3) := dk_153 0 10 (dk_at dksX0_isContent_1 11 rfl rfl)
theorem dX0_isContent_38 : decode cX0_isContent 38 = .ok (.iload 5, 2) := dk_21 5 (dk_at dksX0_isContent_1 14 rfl rfl)
theorem dX0_isContent_40 : decode cX0_isContent 40 = .ok (.iload 6, 2) := dk_21 6 (dk_at dksX0_isContent_1 16 rfl rfl)
theorem dX0_isContent_42 : decode cX0_isContent 42 = .ok (.if_icmp .lt 19, 3) := dk_161 0 19 (dk_at dksX0_isContent_1 18 rfl rfl)
theorem dX0_isContent_45 : decode cX0_isContent 45 = .ok (.iload_n 2, 1) := dk_28 (dk_at dksX0_isContent_1 21 rfl rfl)
theorem dX0_isContent_46 : decode cX0_isContent 46 = .ok (.iload_n 3, 1) := dk_29 (dk_at dksX0_isContent_1 22 rfl rfl)
theorem dX0_isContent_47 : decode cX0_isContent 47 = .ok (.if_icmp .eq 10, 3) := dk_159 0 10 (dk_at dksX0_isContent_2 0 rfl rfl)
theorem dX0_isContent_50 : decode cX0_isContent 50 = .ok (.iload 6, 2) := dk_21 6 (dk_at dksX0_isContent_2 3 rfl rfl)
theorem dX0_isContent_52 : decode cX0_isContent 52 = .ok (.iload 5, 2) := dk_21 5 (dk_at dksX0_isContent_2 5 rfl rfl)
theorem dX0_isContent_54 : decode cX0_isContent 54 = .ok (.if_icmp .lt 7, 3) := dk_161 0 7 (dk_at dksX0_isContent_2 7 rfl rfl)
theorem dX0_isContent_57 : decode cX0_isContent 57 = .ok (.iconst 1, 1) := dk_4 (dk_at dksX0_isContent_2 10 rfl rfl)
theorem dX0_isContent_58 : decode cX0_isContent 58 = .ok (.goto 4, 3) := dk_167 0 4 (dk_at dksX0_isContent_2 11 rfl rfl)
theorem dX0_isContent_61 : decode cX0_isContent 61 = .ok (.iconst 0, 1) := dk_3 (dk_at dksX0_isContent_2 14 rfl rfl)
theorem dX0_isContent_62 : decode cX0_isContent 62 = .ok (.ireturn, 1) := dk_172 (dk_at dksX0_isContent_2 15 rfl rfl)
abbrev cX0_thanks : ByteArray := prog_1_method_79_code
def yX0_thanks : MethodName := ⟨RX0, "thanks", "(IIIII)I"⟩
def dkwX0_thanks_5 : List UInt8 := [22, 6, 136, 172]
abbrev dktX0_thanks_5 : List UInt8 := dkwX0_thanks_5 ++ []
def dkwX0_thanks_4 : List UInt8 := [22, 6, 28, 133, 105, 101, 21, 4, 133, 105, 97, 20, 1, 156, 109, 55, 6, 132, 8, 1, 167, 255, 218]
abbrev dktX0_thanks_4 : List UInt8 := dkwX0_thanks_4 ++ dktX0_thanks_5
def dkwX0_thanks_3 : List UInt8 := [133, 55, 6, 3, 54, 8, 21, 8, 21, 5, 162, 0, 37, 22, 6, 28, 133, 105, 29, 133, 105, 20, 1, 218]
abbrev dktX0_thanks_3 : List UInt8 := dkwX0_thanks_3 ++ dktX0_thanks_4
def dkwX0_thanks_2 : List UInt8 := [153, 0, 16, 21, 5, 133, 9, 20, 0, 247, 184, 0, 81, 154, 0, 10, 42, 16, 253, 182, 0, 73, 172, 27]
abbrev dktX0_thanks_2 : List UInt8 := dkwX0_thanks_2 ++ dktX0_thanks_3
def dkwX0_thanks_1 : List UInt8 := [29, 133, 9, 20, 1, 7, 184, 0, 81, 153, 0, 29, 21, 4, 133, 9, 20, 1, 7, 184, 0, 81]
abbrev dktX0_thanks_1 : List UInt8 := dkwX0_thanks_1 ++ dktX0_thanks_2
def dkwX0_thanks_0 : List UInt8 := [27, 133, 9, 20, 1, 216, 184, 0, 81, 153, 0, 53, 28, 133, 9, 20, 1, 7, 184, 0, 81, 153, 0, 41]
abbrev dktX0_thanks_0 : List UInt8 := dkwX0_thanks_0 ++ dktX0_thanks_1
theorem dksX0_thanks_0 : cX0_thanks.data.toList.drop 0 = dktX0_thanks_0 := by decide +kernel
theorem dksX0_thanks_1 : cX0_thanks.data.toList.drop 24 = dktX0_thanks_1 := dk_seg dksX0_thanks_0 24 rfl rfl
theorem dksX0_thanks_2 : cX0_thanks.data.toList.drop 46 = dktX0_thanks_2 := dk_seg dksX0_thanks_1 22 rfl rfl
theorem dksX0_thanks_3 : cX0_thanks.data.toList.drop 70 = dktX0_thanks_3 := dk_seg dksX0_thanks_2 24 rfl rfl
theorem dksX0_thanks_4 : cX0_thanks.data.toList.drop 94 = dktX0_thanks_4 := dk_seg dksX0_thanks_3 24 rfl rfl
theorem dksX0_thanks_5 : cX0_thanks.data.toList.drop 117 = dktX0_thanks_5 := dk_seg dksX0_thanks_4 23 rfl rfl
theorem dX0_thanks_0 : decode cX0_thanks 0 = .ok (.iload_n 1, 1) := dk_27 (dk_at dksX0_thanks_0 0 rfl rfl)
theorem dX0_thanks_1 : decode cX0_thanks 1 = .ok (.i2l, 1) := dk_133 (dk_at dksX0_thanks_0 1 rfl rfl)
theorem dX0_thanks_2 : decode cX0_thanks 2 = .ok (.lconst 0, 1) := dk_9 (dk_at dksX0_thanks_0 2 rfl rfl)
theorem dX0_thanks_3 : decode cX0_thanks 3 = .ok (.ldc2_w 472, 3) := dk_20 1 216 (dk_at dksX0_thanks_0 3 rfl rfl)
theorem dX0_thanks_6 : decode cX0_thanks 6 = .ok (.invokestatic 81, 3) := dk_184 0 81 (dk_at dksX0_thanks_0 6 rfl rfl)
theorem dX0_thanks_9 : decode cX0_thanks 9 = .ok (.ifCond .eq 53, 3) := dk_153 0 53 (dk_at dksX0_thanks_0 9 rfl rfl)
theorem dX0_thanks_12 : decode cX0_thanks 12 = .ok (.iload_n 2, 1) := dk_28 (dk_at dksX0_thanks_0 12 rfl rfl)
theorem dX0_thanks_13 : decode cX0_thanks 13 = .ok (.i2l, 1) := dk_133 (dk_at dksX0_thanks_0 13 rfl rfl)
theorem dX0_thanks_14 : decode cX0_thanks 14 = .ok (.lconst 0, 1) := dk_9 (dk_at dksX0_thanks_0 14 rfl rfl)
theorem dX0_thanks_15 : decode cX0_thanks 15 = .ok (.ldc2_w 263, 3) := dk_20 1 7 (dk_at dksX0_thanks_0 15 rfl rfl)
theorem dX0_thanks_18 : decode cX0_thanks 18 = .ok (.invokestatic 81, 3) := dk_184 0 81 (dk_at dksX0_thanks_0 18 rfl rfl)
theorem dX0_thanks_21 : decode cX0_thanks 21 = .ok (.ifCond .eq 41, 3) := dk_153 0 41 (dk_at dksX0_thanks_0 21 rfl rfl)
theorem dX0_thanks_24 : decode cX0_thanks 24 = .ok (.iload_n 3, 1) := dk_29 (dk_at dksX0_thanks_1 0 rfl rfl)
theorem dX0_thanks_25 : decode cX0_thanks 25 = .ok (.i2l, 1) := dk_133 (dk_at dksX0_thanks_1 1 rfl rfl)
theorem dX0_thanks_26 : decode cX0_thanks 26 = .ok (.lconst 0, 1) := dk_9 (dk_at dksX0_thanks_1 2 rfl rfl)
theorem dX0_thanks_27 : decode cX0_thanks 27 = .ok (.ldc2_w 263, 3) := dk_20 1 7 (dk_at dksX0_thanks_1 3 rfl rfl)
theorem dX0_thanks_30 : decode cX0_thanks 30 = .ok (.invokestatic 81, 3) := dk_184 0 81 (dk_at dksX0_thanks_1 6 rfl rfl)
theorem dX0_thanks_33 : decode cX0_thanks 33 = .ok (.ifCond .eq 29, 3) := dk_153 0 29 (dk_at dksX0_thanks_1 9 rfl rfl)
theorem dX0_thanks_36 : decode cX0_thanks 36 = .ok (.iload 4, 2) := dk_21 4 (dk_at dksX0_thanks_1 12 rfl rfl)
theorem dX0_thanks_38 : decode cX0_thanks 38 = .ok (.i2l, 1) := dk_133 (dk_at dksX0_thanks_1 14 rfl rfl)
theorem dX0_thanks_39 : decode cX0_thanks 39 = .ok (.lconst 0, 1) := dk_9 (dk_at dksX0_thanks_1 15 rfl rfl)
theorem dX0_thanks_40 : decode cX0_thanks 40 = .ok (.ldc2_w 263, 3) := dk_20 1 7 (dk_at dksX0_thanks_1 16 rfl rfl)
theorem dX0_thanks_43 : decode cX0_thanks 43 = .ok (.invokestatic 81, 3) := dk_184 0 81 (dk_at dksX0_thanks_1 19 rfl rfl)
theorem dX0_thanks_46 : decode cX0_thanks 46 = .ok (.ifCond .eq 16, 3) := dk_153 0 16 (dk_at dksX0_thanks_2 0 rfl rfl)
theorem dX0_thanks_49 : decode cX0_thanks 49 = .ok (.iload 5, 2) := dk_21 5 (dk_at dksX0_thanks_2 3 rfl rfl)
theorem dX0_thanks_51 : decode cX0_thanks 51 = .ok (.i2l, 1) := dk_133 (dk_at dksX0_thanks_2 5 rfl rfl)
theorem dX0_thanks_52 : decode cX0_thanks 52 = .ok (.lconst 0, 1) := dk_9 (dk_at dksX0_thanks_2 6 rfl rfl)
theorem dX0_thanks_53 : decode cX0_thanks 53 = .ok (.ldc2_w 247, 3) := dk_20 0 247 (dk_at dksX0_thanks_2 7 rfl rfl)
theorem dX0_thanks_56 : decode cX0_thanks 56 = .ok (.invokestatic 81, 3) := dk_184 0 81 (dk_at dksX0_thanks_2 10 rfl rfl)
theorem dX0_thanks_59 : decode cX0_thanks 59 = .ok (.ifCond .ne 10, 3) := dk_154 0 10 (dk_at dksX0_thanks_2 13 rfl rfl)
theorem dX0_thanks_62 : decode cX0_thanks 62 = .ok (.aload_n 0, 1) := dk_42 (dk_at dksX0_thanks_2 16 rfl rfl)
theorem dX0_thanks_63 : decode cX0_thanks 63 = .ok (.bipush (-3), 2) := dk_16 253 (dk_at dksX0_thanks_2 17 rfl rfl)
theorem dX0_thanks_65 : decode cX0_thanks 65 = .ok (.invokevirtual 73, 3) := dk_182 0 73 (dk_at dksX0_thanks_2 19 rfl rfl)
theorem dX0_thanks_68 : decode cX0_thanks 68 = .ok (.ireturn, 1) := dk_172 (dk_at dksX0_thanks_2 22 rfl rfl)
theorem dX0_thanks_69 : decode cX0_thanks 69 = .ok (.iload_n 1, 1) := dk_27 (dk_at dksX0_thanks_2 23 rfl rfl)
theorem dX0_thanks_70 : decode cX0_thanks 70 = .ok (.i2l, 1) := dk_133 (dk_at dksX0_thanks_3 0 rfl rfl)
theorem dX0_thanks_71 : decode cX0_thanks 71 = .ok (.lstore 6, 2) := dk_55 6 (dk_at dksX0_thanks_3 1 rfl rfl)
theorem dX0_thanks_73 : decode cX0_thanks 73 = .ok (.iconst 0, 1) := dk_3 (dk_at dksX0_thanks_3 3 rfl rfl)
theorem dX0_thanks_74 : decode cX0_thanks 74 = .ok (.istore 8, 2) := dk_54 8 (dk_at dksX0_thanks_3 4 rfl rfl)
theorem dX0_thanks_76 : decode cX0_thanks 76 = .ok (.iload 8, 2) := dk_21 8 (dk_at dksX0_thanks_3 6 rfl rfl)
theorem dX0_thanks_78 : decode cX0_thanks 78 = .ok (.iload 5, 2) := dk_21 5 (dk_at dksX0_thanks_3 8 rfl rfl)
theorem dX0_thanks_80 : decode cX0_thanks 80 = .ok (.if_icmp .ge 37, 3) := dk_162 0 37 (dk_at dksX0_thanks_3 10 rfl rfl)
theorem dX0_thanks_83 : decode cX0_thanks 83 = .ok (.lload 6, 2) := dk_22 6 (dk_at dksX0_thanks_3 13 rfl rfl)
theorem dX0_thanks_85 : decode cX0_thanks 85 = .ok (.iload_n 2, 1) := dk_28 (dk_at dksX0_thanks_3 15 rfl rfl)
theorem dX0_thanks_86 : decode cX0_thanks 86 = .ok (.i2l, 1) := dk_133 (dk_at dksX0_thanks_3 16 rfl rfl)
theorem dX0_thanks_87 : decode cX0_thanks 87 = .ok (.lmul, 1) := dk_105 (dk_at dksX0_thanks_3 17 rfl rfl)
theorem dX0_thanks_88 : decode cX0_thanks 88 = .ok (.iload_n 3, 1) := dk_29 (dk_at dksX0_thanks_3 18 rfl rfl)
theorem dX0_thanks_89 : decode cX0_thanks 89 = .ok (.i2l, 1) := dk_133 (dk_at dksX0_thanks_3 19 rfl rfl)
theorem dX0_thanks_90 : decode cX0_thanks 90 = .ok (.lmul, 1) := dk_105 (dk_at dksX0_thanks_3 20 rfl rfl)
theorem dX0_thanks_91 : decode cX0_thanks 91 = .ok (.ldc2_w 474, 3) := dk_20 1 218 (dk_at dksX0_thanks_3 21 rfl rfl)
theorem dX0_thanks_94 : decode cX0_thanks 94 = .ok (.lload 6, 2) := dk_22 6 (dk_at dksX0_thanks_4 0 rfl rfl)
theorem dX0_thanks_96 : decode cX0_thanks 96 = .ok (.iload_n 2, 1) := dk_28 (dk_at dksX0_thanks_4 2 rfl rfl)
theorem dX0_thanks_97 : decode cX0_thanks 97 = .ok (.i2l, 1) := dk_133 (dk_at dksX0_thanks_4 3 rfl rfl)
theorem dX0_thanks_98 : decode cX0_thanks 98 = .ok (.lmul, 1) := dk_105 (dk_at dksX0_thanks_4 4 rfl rfl)
theorem dX0_thanks_99 : decode cX0_thanks 99 = .ok (.lsub, 1) := dk_101 (dk_at dksX0_thanks_4 5 rfl rfl)
theorem dX0_thanks_100 : decode cX0_thanks 100 = .ok (.iload 4, 2) := dk_21 4 (dk_at dksX0_thanks_4 6 rfl rfl)
theorem dX0_thanks_102 : decode cX0_thanks 102 = .ok (.i2l, 1) := dk_133 (dk_at dksX0_thanks_4 8 rfl rfl)
theorem dX0_thanks_103 : decode cX0_thanks 103 = .ok (.lmul, 1) := dk_105 (dk_at dksX0_thanks_4 9 rfl rfl)
theorem dX0_thanks_104 : decode cX0_thanks 104 = .ok (.ladd, 1) := dk_97 (dk_at dksX0_thanks_4 10 rfl rfl)
theorem dX0_thanks_105 : decode cX0_thanks 105 = .ok (.ldc2_w 412, 3) := dk_20 1 156 (dk_at dksX0_thanks_4 11 rfl rfl)
theorem dX0_thanks_108 : decode cX0_thanks 108 = .ok (.ldiv, 1) := dk_109 (dk_at dksX0_thanks_4 14 rfl rfl)
theorem dX0_thanks_109 : decode cX0_thanks 109 = .ok (.lstore 6, 2) := dk_55 6 (dk_at dksX0_thanks_4 15 rfl rfl)
theorem dX0_thanks_111 : decode cX0_thanks 111 = .ok (.iinc 8 1, 3) := dk_132 8 1 (dk_at dksX0_thanks_4 17 rfl rfl)
theorem dX0_thanks_114 : decode cX0_thanks 114 = .ok (.goto (-38), 3) := dk_167 255 218 (dk_at dksX0_thanks_4 20 rfl rfl)
theorem dX0_thanks_117 : decode cX0_thanks 117 = .ok (.lload 6, 2) := dk_22 6 (dk_at dksX0_thanks_5 0 rfl rfl)
theorem dX0_thanks_119 : decode cX0_thanks 119 = .ok (.l2i, 1) := dk_136 (dk_at dksX0_thanks_5 2 rfl rfl)
theorem dX0_thanks_120 : decode cX0_thanks 120 = .ok (.ireturn, 1) := dk_172 (dk_at dksX0_thanks_5 3 rfl rfl)
abbrev cX0_filled : ByteArray := prog_1_method_83_code
def yX0_filled : MethodName := ⟨RX0, "filled", "(II)I"⟩
def dkwX0_filled_3 : List UInt8 := [42, 29, 182, 0, 73, 167, 0, 9, 42, 27, 28, 182, 1, 226, 172]
abbrev dktX0_filled_3 : List UInt8 := dkwX0_filled_3 ++ []
def dkwX0_filled_2 : List UInt8 := [133, 184, 0, 81, 154, 0, 10, 42, 16, 249, 182, 0, 73, 172, 42, 27, 182, 1, 223, 62, 29, 153, 0, 11]
abbrev dktX0_filled_2 : List UInt8 := dkwX0_filled_2 ++ dktX0_filled_3
def dkwX0_filled_1 : List UInt8 := [199, 0, 10, 42, 16, 250, 182, 0, 73, 172, 28, 133, 9, 42, 180, 0, 66, 27, 50, 182, 1, 193, 4, 100]
abbrev dktX0_filled_1 : List UInt8 := dkwX0_filled_1 ++ dktX0_filled_2
def dkwX0_filled_0 : List UInt8 := [27, 184, 1, 184, 154, 0, 10, 42, 16, 254, 182, 0, 73, 172, 42, 180, 0, 66, 27, 50, 180, 1, 189]
abbrev dktX0_filled_0 : List UInt8 := dkwX0_filled_0 ++ dktX0_filled_1
theorem dksX0_filled_0 : cX0_filled.data.toList.drop 0 = dktX0_filled_0 := by decide +kernel
theorem dksX0_filled_1 : cX0_filled.data.toList.drop 23 = dktX0_filled_1 := dk_seg dksX0_filled_0 23 rfl rfl
theorem dksX0_filled_2 : cX0_filled.data.toList.drop 47 = dktX0_filled_2 := dk_seg dksX0_filled_1 24 rfl rfl
theorem dksX0_filled_3 : cX0_filled.data.toList.drop 71 = dktX0_filled_3 := dk_seg dksX0_filled_2 24 rfl rfl
theorem dX0_filled_0 : decode cX0_filled 0 = .ok (.iload_n 1, 1) := dk_27 (dk_at dksX0_filled_0 0 rfl rfl)
theorem dX0_filled_1 : decode cX0_filled 1 = .ok (.invokestatic 440, 3) := dk_184 1 184 (dk_at dksX0_filled_0 1 rfl rfl)
theorem dX0_filled_4 : decode cX0_filled 4 = .ok (.ifCond .ne 10, 3) := dk_154 0 10 (dk_at dksX0_filled_0 4 rfl rfl)
theorem dX0_filled_7 : decode cX0_filled 7 = .ok (.aload_n 0, 1) := dk_42 (dk_at dksX0_filled_0 7 rfl rfl)
theorem dX0_filled_8 : decode cX0_filled 8 = .ok (.bipush (-2), 2) := dk_16 254 (dk_at dksX0_filled_0 8 rfl rfl)
theorem dX0_filled_10 : decode cX0_filled 10 = .ok (.invokevirtual 73, 3) := dk_182 0 73 (dk_at dksX0_filled_0 10 rfl rfl)
theorem dX0_filled_13 : decode cX0_filled 13 = .ok (.ireturn, 1) := dk_172 (dk_at dksX0_filled_0 13 rfl rfl)
theorem dX0_filled_14 : decode cX0_filled 14 = .ok (.aload_n 0, 1) := dk_42 (dk_at dksX0_filled_0 14 rfl rfl)
theorem dX0_filled_15 : decode cX0_filled 15 = .ok (.getfield 66, 3) := dk_180 0 66 (dk_at dksX0_filled_0 15 rfl rfl)
theorem dX0_filled_18 : decode cX0_filled 18 = .ok (.iload_n 1, 1) := dk_27 (dk_at dksX0_filled_0 18 rfl rfl)
theorem dX0_filled_19 : decode cX0_filled 19 = .ok (.aaload, 1) := dk_50 (dk_at dksX0_filled_0 19 rfl rfl)
theorem dX0_filled_20 : decode cX0_filled 20 = .ok (.getfield 445, 3) := dk_180 1 189 (dk_at dksX0_filled_0 20 rfl rfl)
theorem dX0_filled_23 : decode cX0_filled 23 = .ok (.ifnonnull 10, 3) := dk_199 0 10 (dk_at dksX0_filled_1 0 rfl rfl)
theorem dX0_filled_26 : decode cX0_filled 26 = .ok (.aload_n 0, 1) := dk_42 (dk_at dksX0_filled_1 3 rfl rfl)
theorem dX0_filled_27 : decode cX0_filled 27 = .ok (.bipush (-6), 2) := dk_16 250 (dk_at dksX0_filled_1 4 rfl rfl)
theorem dX0_filled_29 : decode cX0_filled 29 = .ok (.invokevirtual 73, 3) := dk_182 0 73 (dk_at dksX0_filled_1 6 rfl rfl)
theorem dX0_filled_32 : decode cX0_filled 32 = .ok (.ireturn, 1) := dk_172 (dk_at dksX0_filled_1 9 rfl rfl)
theorem dX0_filled_33 : decode cX0_filled 33 = .ok (.iload_n 2, 1) := dk_28 (dk_at dksX0_filled_1 10 rfl rfl)
theorem dX0_filled_34 : decode cX0_filled 34 = .ok (.i2l, 1) := dk_133 (dk_at dksX0_filled_1 11 rfl rfl)
theorem dX0_filled_35 : decode cX0_filled 35 = .ok (.lconst 0, 1) := dk_9 (dk_at dksX0_filled_1 12 rfl rfl)
theorem dX0_filled_36 : decode cX0_filled 36 = .ok (.aload_n 0, 1) := dk_42 (dk_at dksX0_filled_1 13 rfl rfl)
theorem dX0_filled_37 : decode cX0_filled 37 = .ok (.getfield 66, 3) := dk_180 0 66 (dk_at dksX0_filled_1 14 rfl rfl)
theorem dX0_filled_40 : decode cX0_filled 40 = .ok (.iload_n 1, 1) := dk_27 (dk_at dksX0_filled_1 17 rfl rfl)
theorem dX0_filled_41 : decode cX0_filled 41 = .ok (.aaload, 1) := dk_50 (dk_at dksX0_filled_1 18 rfl rfl)
theorem dX0_filled_42 : decode cX0_filled 42 = .ok (.invokevirtual 449, 3) := dk_182 1 193 (dk_at dksX0_filled_1 19 rfl rfl)
theorem dX0_filled_45 : decode cX0_filled 45 = .ok (.iconst 1, 1) := dk_4 (dk_at dksX0_filled_1 22 rfl rfl)
theorem dX0_filled_46 : decode cX0_filled 46 = .ok (.isub, 1) := dk_100 (dk_at dksX0_filled_1 23 rfl rfl)
theorem dX0_filled_47 : decode cX0_filled 47 = .ok (.i2l, 1) := dk_133 (dk_at dksX0_filled_2 0 rfl rfl)
theorem dX0_filled_48 : decode cX0_filled 48 = .ok (.invokestatic 81, 3) := dk_184 0 81 (dk_at dksX0_filled_2 1 rfl rfl)
theorem dX0_filled_51 : decode cX0_filled 51 = .ok (.ifCond .ne 10, 3) := dk_154 0 10 (dk_at dksX0_filled_2 4 rfl rfl)
theorem dX0_filled_54 : decode cX0_filled 54 = .ok (.aload_n 0, 1) := dk_42 (dk_at dksX0_filled_2 7 rfl rfl)
theorem dX0_filled_55 : decode cX0_filled 55 = .ok (.bipush (-7), 2) := dk_16 249 (dk_at dksX0_filled_2 8 rfl rfl)
theorem dX0_filled_57 : decode cX0_filled 57 = .ok (.invokevirtual 73, 3) := dk_182 0 73 (dk_at dksX0_filled_2 10 rfl rfl)
theorem dX0_filled_60 : decode cX0_filled 60 = .ok (.ireturn, 1) := dk_172 (dk_at dksX0_filled_2 13 rfl rfl)
theorem dX0_filled_61 : decode cX0_filled 61 = .ok (.aload_n 0, 1) := dk_42 (dk_at dksX0_filled_2 14 rfl rfl)
theorem dX0_filled_62 : decode cX0_filled 62 = .ok (.iload_n 1, 1) := dk_27 (dk_at dksX0_filled_2 15 rfl rfl)
theorem dX0_filled_63 : decode cX0_filled 63 = .ok (.invokevirtual 479, 3) := dk_182 1 223 (dk_at dksX0_filled_2 16 rfl rfl)
theorem dX0_filled_66 : decode cX0_filled 66 = .ok (.istore_n 3, 1) := dk_62 (dk_at dksX0_filled_2 19 rfl rfl)
theorem dX0_filled_67 : decode cX0_filled 67 = .ok (.iload_n 3, 1) := dk_29 (dk_at dksX0_filled_2 20 rfl rfl)
theorem dX0_filled_68 : decode cX0_filled 68 = .ok (.ifCond .eq 11, 3) := dk_153 0 11 (dk_at dksX0_filled_2 21 rfl rfl)
theorem dX0_filled_71 : decode cX0_filled 71 = .ok (.aload_n 0, 1) := dk_42 (dk_at dksX0_filled_3 0 rfl rfl)
theorem dX0_filled_72 : decode cX0_filled 72 = .ok (.iload_n 3, 1) := dk_29 (dk_at dksX0_filled_3 1 rfl rfl)
theorem dX0_filled_73 : decode cX0_filled 73 = .ok (.invokevirtual 73, 3) := dk_182 0 73 (dk_at dksX0_filled_3 2 rfl rfl)
theorem dX0_filled_76 : decode cX0_filled 76 = .ok (.goto 9, 3) := dk_167 0 9 (dk_at dksX0_filled_3 5 rfl rfl)
theorem dX0_filled_79 : decode cX0_filled 79 = .ok (.aload_n 0, 1) := dk_42 (dk_at dksX0_filled_3 8 rfl rfl)
theorem dX0_filled_80 : decode cX0_filled 80 = .ok (.iload_n 1, 1) := dk_27 (dk_at dksX0_filled_3 9 rfl rfl)
theorem dX0_filled_81 : decode cX0_filled 81 = .ok (.iload_n 2, 1) := dk_28 (dk_at dksX0_filled_3 10 rfl rfl)
theorem dX0_filled_82 : decode cX0_filled 82 = .ok (.invokevirtual 482, 3) := dk_182 1 226 (dk_at dksX0_filled_3 11 rfl rfl)
theorem dX0_filled_85 : decode cX0_filled 85 = .ok (.ireturn, 1) := dk_172 (dk_at dksX0_filled_3 14 rfl rfl)
abbrev cX0_countsFault : ByteArray := prog_1_method_80_code
def yX0_countsFault : MethodName := ⟨RX0, "countsFault", "(I)I"⟩
def dkwX0_countsFault_2 : List UInt8 := [16, 253, 172, 132, 2, 1, 167, 255, 220, 3, 172]
abbrev dktX0_countsFault_2 : List UInt8 := dkwX0_countsFault_2 ++ []
def dkwX0_countsFault_1 : List UInt8 := [182, 1, 193, 162, 0, 29, 42, 180, 0, 66, 27, 50, 28, 182, 1, 194, 20, 1, 216, 148, 158, 0, 6]
abbrev dktX0_countsFault_1 : List UInt8 := dkwX0_countsFault_1 ++ dktX0_countsFault_2
def dkwX0_countsFault_0 : List UInt8 := [42, 180, 0, 66, 27, 50, 180, 1, 189, 199, 0, 6, 16, 250, 172, 3, 61, 28, 42, 180, 0, 66, 27, 50]
abbrev dktX0_countsFault_0 : List UInt8 := dkwX0_countsFault_0 ++ dktX0_countsFault_1
theorem dksX0_countsFault_0 : cX0_countsFault.data.toList.drop 0 = dktX0_countsFault_0 := by decide +kernel
theorem dksX0_countsFault_1 : cX0_countsFault.data.toList.drop 24 = dktX0_countsFault_1 := dk_seg dksX0_countsFault_0 24 rfl rfl
theorem dksX0_countsFault_2 : cX0_countsFault.data.toList.drop 47 = dktX0_countsFault_2 := dk_seg dksX0_countsFault_1 23 rfl rfl
theorem dX0_countsFault_0 : decode cX0_countsFault 0 = .ok (.aload_n 0, 1) := dk_42 (dk_at dksX0_countsFault_0 0 rfl rfl)
theorem dX0_countsFault_1 : decode cX0_countsFault 1 = .ok (.getfield 66, 3) := dk_180 0 66 (dk_at dksX0_countsFault_0 1 rfl rfl)
theorem dX0_countsFault_4 : decode cX0_countsFault 4 = .ok (.iload_n 1, 1) := dk_27 (dk_at dksX0_countsFault_0 4 rfl rfl)
theorem dX0_countsFault_5 : decode cX0_countsFault 5 = .ok (.aaload, 1) := dk_50 (dk_at dksX0_countsFault_0 5 rfl rfl)
theorem dX0_countsFault_6 : decode cX0_countsFault 6 = .ok (.getfield 445, 3) := dk_180 1 189 (dk_at dksX0_countsFault_0 6 rfl rfl)
theorem dX0_countsFault_9 : decode cX0_countsFault 9 = .ok (.ifnonnull 6, 3) := dk_199 0 6 (dk_at dksX0_countsFault_0 9 rfl rfl)
theorem dX0_countsFault_12 : decode cX0_countsFault 12 = .ok (.bipush (-6), 2) := dk_16 250 (dk_at dksX0_countsFault_0 12 rfl rfl)
theorem dX0_countsFault_14 : decode cX0_countsFault 14 = .ok (.ireturn, 1) := dk_172 (dk_at dksX0_countsFault_0 14 rfl rfl)
theorem dX0_countsFault_15 : decode cX0_countsFault 15 = .ok (.iconst 0, 1) := dk_3 (dk_at dksX0_countsFault_0 15 rfl rfl)
theorem dX0_countsFault_16 : decode cX0_countsFault 16 = .ok (.istore_n 2, 1) := dk_61 (dk_at dksX0_countsFault_0 16 rfl rfl)
theorem dX0_countsFault_17 : decode cX0_countsFault 17 = .ok (.iload_n 2, 1) := dk_28 (dk_at dksX0_countsFault_0 17 rfl rfl)
theorem dX0_countsFault_18 : decode cX0_countsFault 18 = .ok (.aload_n 0, 1) := dk_42 (dk_at dksX0_countsFault_0 18 rfl rfl)
theorem dX0_countsFault_19 : decode cX0_countsFault 19 = .ok (.getfield 66, 3) := dk_180 0 66 (dk_at dksX0_countsFault_0 19 rfl rfl)
theorem dX0_countsFault_22 : decode cX0_countsFault 22 = .ok (.iload_n 1, 1) := dk_27 (dk_at dksX0_countsFault_0 22 rfl rfl)
theorem dX0_countsFault_23 : decode cX0_countsFault 23 = .ok (.aaload, 1) := dk_50 (dk_at dksX0_countsFault_0 23 rfl rfl)
theorem dX0_countsFault_24 : decode cX0_countsFault 24 = .ok (.invokevirtual 449, 3) := dk_182 1 193 (dk_at dksX0_countsFault_1 0 rfl rfl)
theorem dX0_countsFault_27 : decode cX0_countsFault 27 = .ok (.if_icmp .ge 29, 3) := dk_162 0 29 (dk_at dksX0_countsFault_1 3 rfl rfl)
theorem dX0_countsFault_30 : decode cX0_countsFault 30 = .ok (.aload_n 0, 1) := dk_42 (dk_at dksX0_countsFault_1 6 rfl rfl)
theorem dX0_countsFault_31 : decode cX0_countsFault 31 = .ok (.getfield 66, 3) := dk_180 0 66 (dk_at dksX0_countsFault_1 7 rfl rfl)
theorem dX0_countsFault_34 : decode cX0_countsFault 34 = .ok (.iload_n 1, 1) := dk_27 (dk_at dksX0_countsFault_1 10 rfl rfl)
theorem dX0_countsFault_35 : decode cX0_countsFault 35 = .ok (.aaload, 1) := dk_50 (dk_at dksX0_countsFault_1 11 rfl rfl)
theorem dX0_countsFault_36 : decode cX0_countsFault 36 = .ok (.iload_n 2, 1) := dk_28 (dk_at dksX0_countsFault_1 12 rfl rfl)
theorem dX0_countsFault_37 : decode cX0_countsFault 37 = .ok (.invokevirtual 450, 3) := dk_182 1 194 (dk_at dksX0_countsFault_1 13 rfl rfl)
theorem dX0_countsFault_40 : decode cX0_countsFault 40 = .ok (.ldc2_w 472, 3) := dk_20 1 216 (dk_at dksX0_countsFault_1 16 rfl rfl)
theorem dX0_countsFault_43 : decode cX0_countsFault 43 = .ok (.lcmp, 1) := dk_148 (dk_at dksX0_countsFault_1 19 rfl rfl)
theorem dX0_countsFault_44 : decode cX0_countsFault 44 = .ok (.ifCond .le 6, 3) := dk_158 0 6 (dk_at dksX0_countsFault_1 20 rfl rfl)
theorem dX0_countsFault_47 : decode cX0_countsFault 47 = .ok (.bipush (-3), 2) := dk_16 253 (dk_at dksX0_countsFault_2 0 rfl rfl)
theorem dX0_countsFault_49 : decode cX0_countsFault 49 = .ok (.ireturn, 1) := dk_172 (dk_at dksX0_countsFault_2 2 rfl rfl)
theorem dX0_countsFault_50 : decode cX0_countsFault 50 = .ok (.iinc 2 1, 3) := dk_132 2 1 (dk_at dksX0_countsFault_2 3 rfl rfl)
theorem dX0_countsFault_53 : decode cX0_countsFault 53 = .ok (.goto (-36), 3) := dk_167 255 220 (dk_at dksX0_countsFault_2 6 rfl rfl)
theorem dX0_countsFault_56 : decode cX0_countsFault 56 = .ok (.iconst 0, 1) := dk_3 (dk_at dksX0_countsFault_2 9 rfl rfl)
theorem dX0_countsFault_57 : decode cX0_countsFault 57 = .ok (.ireturn, 1) := dk_172 (dk_at dksX0_countsFault_2 10 rfl rfl)
abbrev cX0_filledAt : ByteArray := prog_1_method_82_code
def yX0_filledAt : MethodName := ⟨RX0, "filledAt", "(II)I"⟩
def dkwX0_filledAt_1 : List UInt8 := [2, 160, 0, 10, 29, 21, 4, 184, 1, 145, 172, 29, 21, 4, 96, 5, 108, 172]
abbrev dktX0_filledAt_1 : List UInt8 := dkwX0_filledAt_1 ++ []
def dkwX0_filledAt_0 : List UInt8 := [42, 27, 28, 2, 182, 1, 220, 62, 42, 27, 28, 4, 182, 1, 220, 54, 4, 29, 2, 159, 0, 9, 21, 4]
abbrev dktX0_filledAt_0 : List UInt8 := dkwX0_filledAt_0 ++ dktX0_filledAt_1
theorem dksX0_filledAt_0 : cX0_filledAt.data.toList.drop 0 = dktX0_filledAt_0 := by decide +kernel
theorem dksX0_filledAt_1 : cX0_filledAt.data.toList.drop 24 = dktX0_filledAt_1 := dk_seg dksX0_filledAt_0 24 rfl rfl
theorem dX0_filledAt_0 : decode cX0_filledAt 0 = .ok (.aload_n 0, 1) := dk_42 (dk_at dksX0_filledAt_0 0 rfl rfl)
theorem dX0_filledAt_1 : decode cX0_filledAt 1 = .ok (.iload_n 1, 1) := dk_27 (dk_at dksX0_filledAt_0 1 rfl rfl)
theorem dX0_filledAt_2 : decode cX0_filledAt 2 = .ok (.iload_n 2, 1) := dk_28 (dk_at dksX0_filledAt_0 2 rfl rfl)
theorem dX0_filledAt_3 : decode cX0_filledAt 3 = .ok (.iconst (-1), 1) := dk_2 (dk_at dksX0_filledAt_0 3 rfl rfl)
theorem dX0_filledAt_4 : decode cX0_filledAt 4 = .ok (.invokevirtual 476, 3) := dk_182 1 220 (dk_at dksX0_filledAt_0 4 rfl rfl)
theorem dX0_filledAt_7 : decode cX0_filledAt 7 = .ok (.istore_n 3, 1) := dk_62 (dk_at dksX0_filledAt_0 7 rfl rfl)
theorem dX0_filledAt_8 : decode cX0_filledAt 8 = .ok (.aload_n 0, 1) := dk_42 (dk_at dksX0_filledAt_0 8 rfl rfl)
theorem dX0_filledAt_9 : decode cX0_filledAt 9 = .ok (.iload_n 1, 1) := dk_27 (dk_at dksX0_filledAt_0 9 rfl rfl)
theorem dX0_filledAt_10 : decode cX0_filledAt 10 = .ok (.iload_n 2, 1) := dk_28 (dk_at dksX0_filledAt_0 10 rfl rfl)
theorem dX0_filledAt_11 : decode cX0_filledAt 11 = .ok (.iconst 1, 1) := dk_4 (dk_at dksX0_filledAt_0 11 rfl rfl)
theorem dX0_filledAt_12 : decode cX0_filledAt 12 = .ok (.invokevirtual 476, 3) := dk_182 1 220 (dk_at dksX0_filledAt_0 12 rfl rfl)
theorem dX0_filledAt_15 : decode cX0_filledAt 15 = .ok (.istore 4, 2) := dk_54 4 (dk_at dksX0_filledAt_0 15 rfl rfl)
theorem dX0_filledAt_17 : decode cX0_filledAt 17 = .ok (.iload_n 3, 1) := dk_29 (dk_at dksX0_filledAt_0 17 rfl rfl)
theorem dX0_filledAt_18 : decode cX0_filledAt 18 = .ok (.iconst (-1), 1) := dk_2 (dk_at dksX0_filledAt_0 18 rfl rfl)
theorem dX0_filledAt_19 : decode cX0_filledAt 19 = .ok (.if_icmp .eq 9, 3) := dk_159 0 9 (dk_at dksX0_filledAt_0 19 rfl rfl)
theorem dX0_filledAt_22 : decode cX0_filledAt 22 = .ok (.iload 4, 2) := dk_21 4 (dk_at dksX0_filledAt_0 22 rfl rfl)
theorem dX0_filledAt_24 : decode cX0_filledAt 24 = .ok (.iconst (-1), 1) := dk_2 (dk_at dksX0_filledAt_1 0 rfl rfl)
theorem dX0_filledAt_25 : decode cX0_filledAt 25 = .ok (.if_icmp .ne 10, 3) := dk_160 0 10 (dk_at dksX0_filledAt_1 1 rfl rfl)
theorem dX0_filledAt_28 : decode cX0_filledAt 28 = .ok (.iload_n 3, 1) := dk_29 (dk_at dksX0_filledAt_1 4 rfl rfl)
theorem dX0_filledAt_29 : decode cX0_filledAt 29 = .ok (.iload 4, 2) := dk_21 4 (dk_at dksX0_filledAt_1 5 rfl rfl)
theorem dX0_filledAt_31 : decode cX0_filledAt 31 = .ok (.invokestatic 401, 3) := dk_184 1 145 (dk_at dksX0_filledAt_1 7 rfl rfl)
theorem dX0_filledAt_34 : decode cX0_filledAt 34 = .ok (.ireturn, 1) := dk_172 (dk_at dksX0_filledAt_1 10 rfl rfl)
theorem dX0_filledAt_35 : decode cX0_filledAt 35 = .ok (.iload_n 3, 1) := dk_29 (dk_at dksX0_filledAt_1 11 rfl rfl)
theorem dX0_filledAt_36 : decode cX0_filledAt 36 = .ok (.iload 4, 2) := dk_21 4 (dk_at dksX0_filledAt_1 12 rfl rfl)
theorem dX0_filledAt_38 : decode cX0_filledAt 38 = .ok (.iadd, 1) := dk_96 (dk_at dksX0_filledAt_1 14 rfl rfl)
theorem dX0_filledAt_39 : decode cX0_filledAt 39 = .ok (.iconst 2, 1) := dk_5 (dk_at dksX0_filledAt_1 15 rfl rfl)
theorem dX0_filledAt_40 : decode cX0_filledAt 40 = .ok (.idiv, 1) := dk_108 (dk_at dksX0_filledAt_1 16 rfl rfl)
theorem dX0_filledAt_41 : decode cX0_filledAt 41 = .ok (.ireturn, 1) := dk_172 (dk_at dksX0_filledAt_1 17 rfl rfl)
abbrev cX0_nearest : ByteArray := prog_1_method_81_code
def yX0_nearest : MethodName := ⟨RX0, "nearest", "(III)I"⟩
def dkwX0_nearest_2 : List UInt8 := [50, 21, 4, 182, 1, 194, 136, 172, 21, 4, 29, 96, 54, 4, 167, 255, 199, 2, 172]
abbrev dktX0_nearest_2 : List UInt8 := dkwX0_nearest_2 ++ []
def dkwX0_nearest_1 : List UInt8 := [153, 0, 41, 42, 180, 0, 66, 27, 50, 21, 4, 182, 1, 194, 9, 148, 155, 0, 16, 42, 180, 0, 66, 27]
abbrev dktX0_nearest_1 : List UInt8 := dkwX0_nearest_1 ++ dktX0_nearest_2
def dkwX0_nearest_0 : List UInt8 := [28, 54, 4, 21, 4, 133, 9, 42, 180, 0, 66, 27, 50, 182, 1, 193, 4, 100, 133, 184, 0, 81]
abbrev dktX0_nearest_0 : List UInt8 := dkwX0_nearest_0 ++ dktX0_nearest_1
theorem dksX0_nearest_0 : cX0_nearest.data.toList.drop 0 = dktX0_nearest_0 := by decide +kernel
theorem dksX0_nearest_1 : cX0_nearest.data.toList.drop 22 = dktX0_nearest_1 := dk_seg dksX0_nearest_0 22 rfl rfl
theorem dksX0_nearest_2 : cX0_nearest.data.toList.drop 46 = dktX0_nearest_2 := dk_seg dksX0_nearest_1 24 rfl rfl
theorem dX0_nearest_0 : decode cX0_nearest 0 = .ok (.iload_n 2, 1) := dk_28 (dk_at dksX0_nearest_0 0 rfl rfl)
theorem dX0_nearest_1 : decode cX0_nearest 1 = .ok (.istore 4, 2) := dk_54 4 (dk_at dksX0_nearest_0 1 rfl rfl)
theorem dX0_nearest_3 : decode cX0_nearest 3 = .ok (.iload 4, 2) := dk_21 4 (dk_at dksX0_nearest_0 3 rfl rfl)
theorem dX0_nearest_5 : decode cX0_nearest 5 = .ok (.i2l, 1) := dk_133 (dk_at dksX0_nearest_0 5 rfl rfl)
theorem dX0_nearest_6 : decode cX0_nearest 6 = .ok (.lconst 0, 1) := dk_9 (dk_at dksX0_nearest_0 6 rfl rfl)
theorem dX0_nearest_7 : decode cX0_nearest 7 = .ok (.aload_n 0, 1) := dk_42 (dk_at dksX0_nearest_0 7 rfl rfl)
theorem dX0_nearest_8 : decode cX0_nearest 8 = .ok (.getfield 66, 3) := dk_180 0 66 (dk_at dksX0_nearest_0 8 rfl rfl)
theorem dX0_nearest_11 : decode cX0_nearest 11 = .ok (.iload_n 1, 1) := dk_27 (dk_at dksX0_nearest_0 11 rfl rfl)
theorem dX0_nearest_12 : decode cX0_nearest 12 = .ok (.aaload, 1) := dk_50 (dk_at dksX0_nearest_0 12 rfl rfl)
theorem dX0_nearest_13 : decode cX0_nearest 13 = .ok (.invokevirtual 449, 3) := dk_182 1 193 (dk_at dksX0_nearest_0 13 rfl rfl)
theorem dX0_nearest_16 : decode cX0_nearest 16 = .ok (.iconst 1, 1) := dk_4 (dk_at dksX0_nearest_0 16 rfl rfl)
theorem dX0_nearest_17 : decode cX0_nearest 17 = .ok (.isub, 1) := dk_100 (dk_at dksX0_nearest_0 17 rfl rfl)
theorem dX0_nearest_18 : decode cX0_nearest 18 = .ok (.i2l, 1) := dk_133 (dk_at dksX0_nearest_0 18 rfl rfl)
theorem dX0_nearest_19 : decode cX0_nearest 19 = .ok (.invokestatic 81, 3) := dk_184 0 81 (dk_at dksX0_nearest_0 19 rfl rfl)
theorem dX0_nearest_22 : decode cX0_nearest 22 = .ok (.ifCond .eq 41, 3) := dk_153 0 41 (dk_at dksX0_nearest_1 0 rfl rfl)
theorem dX0_nearest_25 : decode cX0_nearest 25 = .ok (.aload_n 0, 1) := dk_42 (dk_at dksX0_nearest_1 3 rfl rfl)
theorem dX0_nearest_26 : decode cX0_nearest 26 = .ok (.getfield 66, 3) := dk_180 0 66 (dk_at dksX0_nearest_1 4 rfl rfl)
theorem dX0_nearest_29 : decode cX0_nearest 29 = .ok (.iload_n 1, 1) := dk_27 (dk_at dksX0_nearest_1 7 rfl rfl)
theorem dX0_nearest_30 : decode cX0_nearest 30 = .ok (.aaload, 1) := dk_50 (dk_at dksX0_nearest_1 8 rfl rfl)
theorem dX0_nearest_31 : decode cX0_nearest 31 = .ok (.iload 4, 2) := dk_21 4 (dk_at dksX0_nearest_1 9 rfl rfl)
theorem dX0_nearest_33 : decode cX0_nearest 33 = .ok (.invokevirtual 450, 3) := dk_182 1 194 (dk_at dksX0_nearest_1 11 rfl rfl)
theorem dX0_nearest_36 : decode cX0_nearest 36 = .ok (.lconst 0, 1) := dk_9 (dk_at dksX0_nearest_1 14 rfl rfl)
theorem dX0_nearest_37 : decode cX0_nearest 37 = .ok (.lcmp, 1) := dk_148 (dk_at dksX0_nearest_1 15 rfl rfl)
theorem dX0_nearest_38 : decode cX0_nearest 38 = .ok (.ifCond .lt 16, 3) := dk_155 0 16 (dk_at dksX0_nearest_1 16 rfl rfl)
theorem dX0_nearest_41 : decode cX0_nearest 41 = .ok (.aload_n 0, 1) := dk_42 (dk_at dksX0_nearest_1 19 rfl rfl)
theorem dX0_nearest_42 : decode cX0_nearest 42 = .ok (.getfield 66, 3) := dk_180 0 66 (dk_at dksX0_nearest_1 20 rfl rfl)
theorem dX0_nearest_45 : decode cX0_nearest 45 = .ok (.iload_n 1, 1) := dk_27 (dk_at dksX0_nearest_1 23 rfl rfl)
theorem dX0_nearest_46 : decode cX0_nearest 46 = .ok (.aaload, 1) := dk_50 (dk_at dksX0_nearest_2 0 rfl rfl)
theorem dX0_nearest_47 : decode cX0_nearest 47 = .ok (.iload 4, 2) := dk_21 4 (dk_at dksX0_nearest_2 1 rfl rfl)
theorem dX0_nearest_49 : decode cX0_nearest 49 = .ok (.invokevirtual 450, 3) := dk_182 1 194 (dk_at dksX0_nearest_2 3 rfl rfl)
theorem dX0_nearest_52 : decode cX0_nearest 52 = .ok (.l2i, 1) := dk_136 (dk_at dksX0_nearest_2 6 rfl rfl)
theorem dX0_nearest_53 : decode cX0_nearest 53 = .ok (.ireturn, 1) := dk_172 (dk_at dksX0_nearest_2 7 rfl rfl)
theorem dX0_nearest_54 : decode cX0_nearest 54 = .ok (.iload 4, 2) := dk_21 4 (dk_at dksX0_nearest_2 8 rfl rfl)
theorem dX0_nearest_56 : decode cX0_nearest 56 = .ok (.iload_n 3, 1) := dk_29 (dk_at dksX0_nearest_2 10 rfl rfl)
theorem dX0_nearest_57 : decode cX0_nearest 57 = .ok (.iadd, 1) := dk_96 (dk_at dksX0_nearest_2 11 rfl rfl)
theorem dX0_nearest_58 : decode cX0_nearest 58 = .ok (.istore 4, 2) := dk_54 4 (dk_at dksX0_nearest_2 12 rfl rfl)
theorem dX0_nearest_60 : decode cX0_nearest 60 = .ok (.goto (-57), 3) := dk_167 255 199 (dk_at dksX0_nearest_2 14 rfl rfl)
theorem dX0_nearest_63 : decode cX0_nearest 63 = .ok (.iconst (-1), 1) := dk_2 (dk_at dksX0_nearest_2 17 rfl rfl)
theorem dX0_nearest_64 : decode cX0_nearest 64 = .ok (.ireturn, 1) := dk_172 (dk_at dksX0_nearest_2 18 rfl rfl)
abbrev cX0_slip : ByteArray := prog_1_method_86_code
def yX0_slip : MethodName := ⟨RX0, "slip", "(II)I"⟩
def dkwX0_slip_5 : List UInt8 := [21, 8, 5, 21, 7, 104, 96, 54, 8, 167, 255, 187, 132, 7, 1, 167, 255, 170, 29, 172]
abbrev dktX0_slip_5 : List UInt8 := dkwX0_slip_5 ++ []
def dkwX0_slip_4 : List UInt8 := [133, 105, 148, 155, 0, 6, 167, 0, 18, 21, 8, 62, 42, 180, 1, 229, 55, 4, 42, 180, 1, 233, 54, 6]
abbrev dktX0_slip_4 : List UInt8 := dkwX0_slip_4 ++ dktX0_slip_5
def dkwX0_slip_3 : List UInt8 := [182, 1, 239, 42, 180, 1, 233, 153, 0, 41, 42, 180, 1, 229, 21, 6, 133, 105, 22, 4, 42, 180, 1, 233]
abbrev dktX0_slip_3 : List UInt8 := dkwX0_slip_3 ++ dktX0_slip_4
def dkwX0_slip_2 : List UInt8 := [21, 7, 6, 163, 0, 86, 21, 7, 116, 54, 8, 21, 8, 21, 7, 163, 0, 68, 42, 27, 28, 21, 8]
abbrev dktX0_slip_2 : List UInt8 := dkwX0_slip_2 ++ dktX0_slip_3
def dkwX0_slip_1 : List UInt8 := [62, 42, 27, 28, 3, 182, 1, 239, 42, 180, 1, 229, 55, 4, 42, 180, 1, 233, 54, 6, 4, 54, 7]
abbrev dktX0_slip_1 : List UInt8 := dkwX0_slip_1 ++ dktX0_slip_2
def dkwX0_slip_0 : List UInt8 := [42, 27, 182, 1, 236, 153, 0, 11, 42, 28, 182, 1, 236, 154, 0, 10, 42, 16, 156, 182, 0, 73, 172, 3]
abbrev dktX0_slip_0 : List UInt8 := dkwX0_slip_0 ++ dktX0_slip_1
theorem dksX0_slip_0 : cX0_slip.data.toList.drop 0 = dktX0_slip_0 := by decide +kernel
theorem dksX0_slip_1 : cX0_slip.data.toList.drop 24 = dktX0_slip_1 := dk_seg dksX0_slip_0 24 rfl rfl
theorem dksX0_slip_2 : cX0_slip.data.toList.drop 47 = dktX0_slip_2 := dk_seg dksX0_slip_1 23 rfl rfl
theorem dksX0_slip_3 : cX0_slip.data.toList.drop 70 = dktX0_slip_3 := dk_seg dksX0_slip_2 23 rfl rfl
theorem dksX0_slip_4 : cX0_slip.data.toList.drop 94 = dktX0_slip_4 := dk_seg dksX0_slip_3 24 rfl rfl
theorem dksX0_slip_5 : cX0_slip.data.toList.drop 118 = dktX0_slip_5 := dk_seg dksX0_slip_4 24 rfl rfl
theorem dX0_slip_0 : decode cX0_slip 0 = .ok (.aload_n 0, 1) := dk_42 (dk_at dksX0_slip_0 0 rfl rfl)
theorem dX0_slip_1 : decode cX0_slip 1 = .ok (.iload_n 1, 1) := dk_27 (dk_at dksX0_slip_0 1 rfl rfl)
theorem dX0_slip_2 : decode cX0_slip 2 = .ok (.invokevirtual 492, 3) := dk_182 1 236 (dk_at dksX0_slip_0 2 rfl rfl)
theorem dX0_slip_5 : decode cX0_slip 5 = .ok (.ifCond .eq 11, 3) := dk_153 0 11 (dk_at dksX0_slip_0 5 rfl rfl)
theorem dX0_slip_8 : decode cX0_slip 8 = .ok (.aload_n 0, 1) := dk_42 (dk_at dksX0_slip_0 8 rfl rfl)
theorem dX0_slip_9 : decode cX0_slip 9 = .ok (.iload_n 2, 1) := dk_28 (dk_at dksX0_slip_0 9 rfl rfl)
theorem dX0_slip_10 : decode cX0_slip 10 = .ok (.invokevirtual 492, 3) := dk_182 1 236 (dk_at dksX0_slip_0 10 rfl rfl)
theorem dX0_slip_13 : decode cX0_slip 13 = .ok (.ifCond .ne 10, 3) := dk_154 0 10 (dk_at dksX0_slip_0 13 rfl rfl)
theorem dX0_slip_16 : decode cX0_slip 16 = .ok (.aload_n 0, 1) := dk_42 (dk_at dksX0_slip_0 16 rfl rfl)
theorem dX0_slip_17 : decode cX0_slip 17 = .ok (.bipush (-100), 2) := dk_16 156 (dk_at dksX0_slip_0 17 rfl rfl)
theorem dX0_slip_19 : decode cX0_slip 19 = .ok (.invokevirtual 73, 3) := dk_182 0 73 (dk_at dksX0_slip_0 19 rfl rfl)
theorem dX0_slip_22 : decode cX0_slip 22 = .ok (.ireturn, 1) := dk_172 (dk_at dksX0_slip_0 22 rfl rfl)
theorem dX0_slip_23 : decode cX0_slip 23 = .ok (.iconst 0, 1) := dk_3 (dk_at dksX0_slip_0 23 rfl rfl)
theorem dX0_slip_24 : decode cX0_slip 24 = .ok (.istore_n 3, 1) := dk_62 (dk_at dksX0_slip_1 0 rfl rfl)
theorem dX0_slip_25 : decode cX0_slip 25 = .ok (.aload_n 0, 1) := dk_42 (dk_at dksX0_slip_1 1 rfl rfl)
theorem dX0_slip_26 : decode cX0_slip 26 = .ok (.iload_n 1, 1) := dk_27 (dk_at dksX0_slip_1 2 rfl rfl)
theorem dX0_slip_27 : decode cX0_slip 27 = .ok (.iload_n 2, 1) := dk_28 (dk_at dksX0_slip_1 3 rfl rfl)
theorem dX0_slip_28 : decode cX0_slip 28 = .ok (.iconst 0, 1) := dk_3 (dk_at dksX0_slip_1 4 rfl rfl)
theorem dX0_slip_29 : decode cX0_slip 29 = .ok (.invokevirtual 495, 3) := dk_182 1 239 (dk_at dksX0_slip_1 5 rfl rfl)
theorem dX0_slip_32 : decode cX0_slip 32 = .ok (.aload_n 0, 1) := dk_42 (dk_at dksX0_slip_1 8 rfl rfl)
theorem dX0_slip_33 : decode cX0_slip 33 = .ok (.getfield 485, 3) := dk_180 1 229 (dk_at dksX0_slip_1 9 rfl rfl)
theorem dX0_slip_36 : decode cX0_slip 36 = .ok (.lstore 4, 2) := dk_55 4 (dk_at dksX0_slip_1 12 rfl rfl)
theorem dX0_slip_38 : decode cX0_slip 38 = .ok (.aload_n 0, 1) := dk_42 (dk_at dksX0_slip_1 14 rfl rfl)
theorem dX0_slip_39 : decode cX0_slip 39 = .ok (.getfield 489, 3) := dk_180 1 233 (dk_at dksX0_slip_1 15 rfl rfl)
theorem dX0_slip_42 : decode cX0_slip 42 = .ok (.istore 6, 2) := dk_54 6 (dk_at dksX0_slip_1 18 rfl rfl)
theorem dX0_slip_44 : decode cX0_slip 44 = .ok (.iconst 1, 1) := dk_4 (dk_at dksX0_slip_1 20 rfl rfl)
theorem dX0_slip_45 : decode cX0_slip 45 = .ok (.istore 7, 2) := dk_54 7 (dk_at dksX0_slip_1 21 rfl rfl)
theorem dX0_slip_47 : decode cX0_slip 47 = .ok (.iload 7, 2) := dk_21 7 (dk_at dksX0_slip_2 0 rfl rfl)
theorem dX0_slip_49 : decode cX0_slip 49 = .ok (.iconst 3, 1) := dk_6 (dk_at dksX0_slip_2 2 rfl rfl)
theorem dX0_slip_50 : decode cX0_slip 50 = .ok (.if_icmp .gt 86, 3) := dk_163 0 86 (dk_at dksX0_slip_2 3 rfl rfl)
theorem dX0_slip_53 : decode cX0_slip 53 = .ok (.iload 7, 2) := dk_21 7 (dk_at dksX0_slip_2 6 rfl rfl)
theorem dX0_slip_55 : decode cX0_slip 55 = .ok (.ineg, 1) := dk_116 (dk_at dksX0_slip_2 8 rfl rfl)
theorem dX0_slip_56 : decode cX0_slip 56 = .ok (.istore 8, 2) := dk_54 8 (dk_at dksX0_slip_2 9 rfl rfl)
theorem dX0_slip_58 : decode cX0_slip 58 = .ok (.iload 8, 2) := dk_21 8 (dk_at dksX0_slip_2 11 rfl rfl)
theorem dX0_slip_60 : decode cX0_slip 60 = .ok (.iload 7, 2) := dk_21 7 (dk_at dksX0_slip_2 13 rfl rfl)
theorem dX0_slip_62 : decode cX0_slip 62 = .ok (.if_icmp .gt 68, 3) := dk_163 0 68 (dk_at dksX0_slip_2 15 rfl rfl)
theorem dX0_slip_65 : decode cX0_slip 65 = .ok (.aload_n 0, 1) := dk_42 (dk_at dksX0_slip_2 18 rfl rfl)
theorem dX0_slip_66 : decode cX0_slip 66 = .ok (.iload_n 1, 1) := dk_27 (dk_at dksX0_slip_2 19 rfl rfl)
theorem dX0_slip_67 : decode cX0_slip 67 = .ok (.iload_n 2, 1) := dk_28 (dk_at dksX0_slip_2 20 rfl rfl)
theorem dX0_slip_68 : decode cX0_slip 68 = .ok (.iload 8, 2) := dk_21 8 (dk_at dksX0_slip_2 21 rfl rfl)
theorem dX0_slip_70 : decode cX0_slip 70 = .ok (.invokevirtual 495, 3) := dk_182 1 239 (dk_at dksX0_slip_3 0 rfl rfl)
theorem dX0_slip_73 : decode cX0_slip 73 = .ok (.aload_n 0, 1) := dk_42 (dk_at dksX0_slip_3 3 rfl rfl)
theorem dX0_slip_74 : decode cX0_slip 74 = .ok (.getfield 489, 3) := dk_180 1 233 (dk_at dksX0_slip_3 4 rfl rfl)
theorem dX0_slip_77 : decode cX0_slip 77 = .ok (.ifCond .eq 41, 3) := dk_153 0 41 (dk_at dksX0_slip_3 7 rfl rfl)
theorem dX0_slip_80 : decode cX0_slip 80 = .ok (.aload_n 0, 1) := dk_42 (dk_at dksX0_slip_3 10 rfl rfl)
theorem dX0_slip_81 : decode cX0_slip 81 = .ok (.getfield 485, 3) := dk_180 1 229 (dk_at dksX0_slip_3 11 rfl rfl)
theorem dX0_slip_84 : decode cX0_slip 84 = .ok (.iload 6, 2) := dk_21 6 (dk_at dksX0_slip_3 14 rfl rfl)
theorem dX0_slip_86 : decode cX0_slip 86 = .ok (.i2l, 1) := dk_133 (dk_at dksX0_slip_3 16 rfl rfl)
theorem dX0_slip_87 : decode cX0_slip 87 = .ok (.lmul, 1) := dk_105 (dk_at dksX0_slip_3 17 rfl rfl)
theorem dX0_slip_88 : decode cX0_slip 88 = .ok (.lload 4, 2) := dk_22 4 (dk_at dksX0_slip_3 18 rfl rfl)
theorem dX0_slip_90 : decode cX0_slip 90 = .ok (.aload_n 0, 1) := dk_42 (dk_at dksX0_slip_3 20 rfl rfl)
theorem dX0_slip_91 : decode cX0_slip 91 = .ok (.getfield 489, 3) := dk_180 1 233 (dk_at dksX0_slip_3 21 rfl rfl)
theorem dX0_slip_94 : decode cX0_slip 94 = .ok (.i2l, 1) := dk_133 (dk_at dksX0_slip_4 0 rfl rfl)
theorem dX0_slip_95 : decode cX0_slip 95 = .ok (.lmul, 1) := dk_105 (dk_at dksX0_slip_4 1 rfl rfl)
theorem dX0_slip_96 : decode cX0_slip 96 = .ok (.lcmp, 1) := dk_148 (dk_at dksX0_slip_4 2 rfl rfl)
theorem dX0_slip_97 : decode cX0_slip 97 = .ok (.ifCond .lt 6, 3) := dk_155 0 6 (dk_at dksX0_slip_4 3 rfl rfl)
theorem dX0_slip_100 : decode cX0_slip 100 = .ok (.goto 18, 3) := dk_167 0 18 (dk_at dksX0_slip_4 6 rfl rfl)
theorem dX0_slip_103 : decode cX0_slip 103 = .ok (.iload 8, 2) := dk_21 8 (dk_at dksX0_slip_4 9 rfl rfl)
theorem dX0_slip_105 : decode cX0_slip 105 = .ok (.istore_n 3, 1) := dk_62 (dk_at dksX0_slip_4 11 rfl rfl)
theorem dX0_slip_106 : decode cX0_slip 106 = .ok (.aload_n 0, 1) := dk_42 (dk_at dksX0_slip_4 12 rfl rfl)
theorem dX0_slip_107 : decode cX0_slip 107 = .ok (.getfield 485, 3) := dk_180 1 229 (dk_at dksX0_slip_4 13 rfl rfl)
theorem dX0_slip_110 : decode cX0_slip 110 = .ok (.lstore 4, 2) := dk_55 4 (dk_at dksX0_slip_4 16 rfl rfl)
theorem dX0_slip_112 : decode cX0_slip 112 = .ok (.aload_n 0, 1) := dk_42 (dk_at dksX0_slip_4 18 rfl rfl)
theorem dX0_slip_113 : decode cX0_slip 113 = .ok (.getfield 489, 3) := dk_180 1 233 (dk_at dksX0_slip_4 19 rfl rfl)
theorem dX0_slip_116 : decode cX0_slip 116 = .ok (.istore 6, 2) := dk_54 6 (dk_at dksX0_slip_4 22 rfl rfl)
theorem dX0_slip_118 : decode cX0_slip 118 = .ok (.iload 8, 2) := dk_21 8 (dk_at dksX0_slip_5 0 rfl rfl)
theorem dX0_slip_120 : decode cX0_slip 120 = .ok (.iconst 2, 1) := dk_5 (dk_at dksX0_slip_5 2 rfl rfl)
theorem dX0_slip_121 : decode cX0_slip 121 = .ok (.iload 7, 2) := dk_21 7 (dk_at dksX0_slip_5 3 rfl rfl)
theorem dX0_slip_123 : decode cX0_slip 123 = .ok (.imul, 1) := dk_104 (dk_at dksX0_slip_5 5 rfl rfl)
theorem dX0_slip_124 : decode cX0_slip 124 = .ok (.iadd, 1) := dk_96 (dk_at dksX0_slip_5 6 rfl rfl)
theorem dX0_slip_125 : decode cX0_slip 125 = .ok (.istore 8, 2) := dk_54 8 (dk_at dksX0_slip_5 7 rfl rfl)
theorem dX0_slip_127 : decode cX0_slip 127 = .ok (.goto (-69), 3) := dk_167 255 187 (dk_at dksX0_slip_5 9 rfl rfl)
theorem dX0_slip_130 : decode cX0_slip 130 = .ok (.iinc 7 1, 3) := dk_132 7 1 (dk_at dksX0_slip_5 12 rfl rfl)
theorem dX0_slip_133 : decode cX0_slip 133 = .ok (.goto (-86), 3) := dk_167 255 170 (dk_at dksX0_slip_5 15 rfl rfl)
theorem dX0_slip_136 : decode cX0_slip 136 = .ok (.iload_n 3, 1) := dk_29 (dk_at dksX0_slip_5 18 rfl rfl)
theorem dX0_slip_137 : decode cX0_slip 137 = .ok (.ireturn, 1) := dk_172 (dk_at dksX0_slip_5 19 rfl rfl)
abbrev cX0_isCounted : ByteArray := prog_1_method_84_code
def yX0_isCounted : MethodName := ⟨RX0, "isCounted", "(I)Z"⟩
def dkwX0_isCounted_1 : List UInt8 := [158, 0, 17, 42, 27, 3, 182, 1, 226, 2, 159, 0, 7, 4, 167, 0, 4, 3, 172]
abbrev dktX0_isCounted_1 : List UInt8 := dkwX0_isCounted_1 ++ []
def dkwX0_isCounted_0 : List UInt8 := [27, 184, 1, 184, 153, 0, 37, 42, 27, 182, 1, 223, 154, 0, 29, 42, 180, 0, 66, 27, 50, 182, 1, 193]
abbrev dktX0_isCounted_0 : List UInt8 := dkwX0_isCounted_0 ++ dktX0_isCounted_1
theorem dksX0_isCounted_0 : cX0_isCounted.data.toList.drop 0 = dktX0_isCounted_0 := by decide +kernel
theorem dksX0_isCounted_1 : cX0_isCounted.data.toList.drop 24 = dktX0_isCounted_1 := dk_seg dksX0_isCounted_0 24 rfl rfl
theorem dX0_isCounted_0 : decode cX0_isCounted 0 = .ok (.iload_n 1, 1) := dk_27 (dk_at dksX0_isCounted_0 0 rfl rfl)
theorem dX0_isCounted_1 : decode cX0_isCounted 1 = .ok (.invokestatic 440, 3) := dk_184 1 184 (dk_at dksX0_isCounted_0 1 rfl rfl)
theorem dX0_isCounted_4 : decode cX0_isCounted 4 = .ok (.ifCond .eq 37, 3) := dk_153 0 37 (dk_at dksX0_isCounted_0 4 rfl rfl)
theorem dX0_isCounted_7 : decode cX0_isCounted 7 = .ok (.aload_n 0, 1) := dk_42 (dk_at dksX0_isCounted_0 7 rfl rfl)
theorem dX0_isCounted_8 : decode cX0_isCounted 8 = .ok (.iload_n 1, 1) := dk_27 (dk_at dksX0_isCounted_0 8 rfl rfl)
theorem dX0_isCounted_9 : decode cX0_isCounted 9 = .ok (.invokevirtual 479, 3) := dk_182 1 223 (dk_at dksX0_isCounted_0 9 rfl rfl)
theorem dX0_isCounted_12 : decode cX0_isCounted 12 = .ok (.ifCond .ne 29, 3) := dk_154 0 29 (dk_at dksX0_isCounted_0 12 rfl rfl)
theorem dX0_isCounted_15 : decode cX0_isCounted 15 = .ok (.aload_n 0, 1) := dk_42 (dk_at dksX0_isCounted_0 15 rfl rfl)
theorem dX0_isCounted_16 : decode cX0_isCounted 16 = .ok (.getfield 66, 3) := dk_180 0 66 (dk_at dksX0_isCounted_0 16 rfl rfl)
theorem dX0_isCounted_19 : decode cX0_isCounted 19 = .ok (.iload_n 1, 1) := dk_27 (dk_at dksX0_isCounted_0 19 rfl rfl)
theorem dX0_isCounted_20 : decode cX0_isCounted 20 = .ok (.aaload, 1) := dk_50 (dk_at dksX0_isCounted_0 20 rfl rfl)
theorem dX0_isCounted_21 : decode cX0_isCounted 21 = .ok (.invokevirtual 449, 3) := dk_182 1 193 (dk_at dksX0_isCounted_0 21 rfl rfl)
theorem dX0_isCounted_24 : decode cX0_isCounted 24 = .ok (.ifCond .le 17, 3) := dk_158 0 17 (dk_at dksX0_isCounted_1 0 rfl rfl)
theorem dX0_isCounted_27 : decode cX0_isCounted 27 = .ok (.aload_n 0, 1) := dk_42 (dk_at dksX0_isCounted_1 3 rfl rfl)
theorem dX0_isCounted_28 : decode cX0_isCounted 28 = .ok (.iload_n 1, 1) := dk_27 (dk_at dksX0_isCounted_1 4 rfl rfl)
theorem dX0_isCounted_29 : decode cX0_isCounted 29 = .ok (.iconst 0, 1) := dk_3 (dk_at dksX0_isCounted_1 5 rfl rfl)
theorem dX0_isCounted_30 : decode cX0_isCounted 30 = .ok (.invokevirtual 482, 3) := dk_182 1 226 (dk_at dksX0_isCounted_1 6 rfl rfl)
theorem dX0_isCounted_33 : decode cX0_isCounted 33 = .ok (.iconst (-1), 1) := dk_2 (dk_at dksX0_isCounted_1 9 rfl rfl)
theorem dX0_isCounted_34 : decode cX0_isCounted 34 = .ok (.if_icmp .eq 7, 3) := dk_159 0 7 (dk_at dksX0_isCounted_1 10 rfl rfl)
theorem dX0_isCounted_37 : decode cX0_isCounted 37 = .ok (.iconst 1, 1) := dk_4 (dk_at dksX0_isCounted_1 13 rfl rfl)
theorem dX0_isCounted_38 : decode cX0_isCounted 38 = .ok (.goto 4, 3) := dk_167 0 4 (dk_at dksX0_isCounted_1 14 rfl rfl)
theorem dX0_isCounted_41 : decode cX0_isCounted 41 = .ok (.iconst 0, 1) := dk_3 (dk_at dksX0_isCounted_1 17 rfl rfl)
theorem dX0_isCounted_42 : decode cX0_isCounted 42 = .ok (.ireturn, 1) := dk_172 (dk_at dksX0_isCounted_1 18 rfl rfl)
abbrev cX0_slips : ByteArray := prog_1_method_85_code
def yX0_slips : MethodName := ⟨RX0, "slips", "(III)V"⟩
def dkwX0_slips_4 : List UInt8 := [132, 4, 1, 167, 255, 172, 177]
abbrev dktX0_slips_4 : List UInt8 := dkwX0_slips_4 ++ []
def dkwX0_slips_3 : List UInt8 := [182, 1, 226, 100, 184, 1, 129, 133, 97, 181, 1, 229, 42, 89, 180, 1, 233, 4, 96, 181, 1, 233]
abbrev dktX0_slips_3 : List UInt8 := dkwX0_slips_3 ++ dktX0_slips_4
def dkwX0_slips_2 : List UInt8 := [154, 0, 6, 167, 0, 43, 42, 89, 180, 1, 229, 42, 27, 21, 4, 182, 1, 226, 42, 28, 21, 4, 29, 96]
abbrev dktX0_slips_2 : List UInt8 := dkwX0_slips_2 ++ dktX0_slips_3
def dkwX0_slips_1 : List UInt8 := [162, 0, 76, 21, 4, 29, 96, 133, 9, 42, 180, 0, 66, 28, 50, 182, 1, 193, 4, 100, 133, 184, 0, 81]
abbrev dktX0_slips_1 : List UInt8 := dkwX0_slips_1 ++ dktX0_slips_2
def dkwX0_slips_0 : List UInt8 := [42, 9, 181, 1, 229, 42, 3, 181, 1, 233, 3, 54, 4, 21, 4, 42, 180, 0, 66, 27, 50, 182, 1, 193]
abbrev dktX0_slips_0 : List UInt8 := dkwX0_slips_0 ++ dktX0_slips_1
theorem dksX0_slips_0 : cX0_slips.data.toList.drop 0 = dktX0_slips_0 := by decide +kernel
theorem dksX0_slips_1 : cX0_slips.data.toList.drop 24 = dktX0_slips_1 := dk_seg dksX0_slips_0 24 rfl rfl
theorem dksX0_slips_2 : cX0_slips.data.toList.drop 48 = dktX0_slips_2 := dk_seg dksX0_slips_1 24 rfl rfl
theorem dksX0_slips_3 : cX0_slips.data.toList.drop 72 = dktX0_slips_3 := dk_seg dksX0_slips_2 24 rfl rfl
theorem dksX0_slips_4 : cX0_slips.data.toList.drop 94 = dktX0_slips_4 := dk_seg dksX0_slips_3 22 rfl rfl
theorem dX0_slips_0 : decode cX0_slips 0 = .ok (.aload_n 0, 1) := dk_42 (dk_at dksX0_slips_0 0 rfl rfl)
theorem dX0_slips_1 : decode cX0_slips 1 = .ok (.lconst 0, 1) := dk_9 (dk_at dksX0_slips_0 1 rfl rfl)
theorem dX0_slips_2 : decode cX0_slips 2 = .ok (.putfield 485, 3) := dk_181 1 229 (dk_at dksX0_slips_0 2 rfl rfl)
theorem dX0_slips_5 : decode cX0_slips 5 = .ok (.aload_n 0, 1) := dk_42 (dk_at dksX0_slips_0 5 rfl rfl)
theorem dX0_slips_6 : decode cX0_slips 6 = .ok (.iconst 0, 1) := dk_3 (dk_at dksX0_slips_0 6 rfl rfl)
theorem dX0_slips_7 : decode cX0_slips 7 = .ok (.putfield 489, 3) := dk_181 1 233 (dk_at dksX0_slips_0 7 rfl rfl)
theorem dX0_slips_10 : decode cX0_slips 10 = .ok (.iconst 0, 1) := dk_3 (dk_at dksX0_slips_0 10 rfl rfl)
theorem dX0_slips_11 : decode cX0_slips 11 = .ok (.istore 4, 2) := dk_54 4 (dk_at dksX0_slips_0 11 rfl rfl)
theorem dX0_slips_13 : decode cX0_slips 13 = .ok (.iload 4, 2) := dk_21 4 (dk_at dksX0_slips_0 13 rfl rfl)
theorem dX0_slips_15 : decode cX0_slips 15 = .ok (.aload_n 0, 1) := dk_42 (dk_at dksX0_slips_0 15 rfl rfl)
theorem dX0_slips_16 : decode cX0_slips 16 = .ok (.getfield 66, 3) := dk_180 0 66 (dk_at dksX0_slips_0 16 rfl rfl)
theorem dX0_slips_19 : decode cX0_slips 19 = .ok (.iload_n 1, 1) := dk_27 (dk_at dksX0_slips_0 19 rfl rfl)
theorem dX0_slips_20 : decode cX0_slips 20 = .ok (.aaload, 1) := dk_50 (dk_at dksX0_slips_0 20 rfl rfl)
theorem dX0_slips_21 : decode cX0_slips 21 = .ok (.invokevirtual 449, 3) := dk_182 1 193 (dk_at dksX0_slips_0 21 rfl rfl)
theorem dX0_slips_24 : decode cX0_slips 24 = .ok (.if_icmp .ge 76, 3) := dk_162 0 76 (dk_at dksX0_slips_1 0 rfl rfl)
theorem dX0_slips_27 : decode cX0_slips 27 = .ok (.iload 4, 2) := dk_21 4 (dk_at dksX0_slips_1 3 rfl rfl)
theorem dX0_slips_29 : decode cX0_slips 29 = .ok (.iload_n 3, 1) := dk_29 (dk_at dksX0_slips_1 5 rfl rfl)
theorem dX0_slips_30 : decode cX0_slips 30 = .ok (.iadd, 1) := dk_96 (dk_at dksX0_slips_1 6 rfl rfl)
theorem dX0_slips_31 : decode cX0_slips 31 = .ok (.i2l, 1) := dk_133 (dk_at dksX0_slips_1 7 rfl rfl)
theorem dX0_slips_32 : decode cX0_slips 32 = .ok (.lconst 0, 1) := dk_9 (dk_at dksX0_slips_1 8 rfl rfl)
theorem dX0_slips_33 : decode cX0_slips 33 = .ok (.aload_n 0, 1) := dk_42 (dk_at dksX0_slips_1 9 rfl rfl)
theorem dX0_slips_34 : decode cX0_slips 34 = .ok (.getfield 66, 3) := dk_180 0 66 (dk_at dksX0_slips_1 10 rfl rfl)
theorem dX0_slips_37 : decode cX0_slips 37 = .ok (.iload_n 2, 1) := dk_28 (dk_at dksX0_slips_1 13 rfl rfl)
theorem dX0_slips_38 : decode cX0_slips 38 = .ok (.aaload, 1) := dk_50 (dk_at dksX0_slips_1 14 rfl rfl)
theorem dX0_slips_39 : decode cX0_slips 39 = .ok (.invokevirtual 449, 3) := dk_182 1 193 (dk_at dksX0_slips_1 15 rfl rfl)
theorem dX0_slips_42 : decode cX0_slips 42 = .ok (.iconst 1, 1) := dk_4 (dk_at dksX0_slips_1 18 rfl rfl)
theorem dX0_slips_43 : decode cX0_slips 43 = .ok (.isub, 1) := dk_100 (dk_at dksX0_slips_1 19 rfl rfl)
theorem dX0_slips_44 : decode cX0_slips 44 = .ok (.i2l, 1) := dk_133 (dk_at dksX0_slips_1 20 rfl rfl)
theorem dX0_slips_45 : decode cX0_slips 45 = .ok (.invokestatic 81, 3) := dk_184 0 81 (dk_at dksX0_slips_1 21 rfl rfl)
theorem dX0_slips_48 : decode cX0_slips 48 = .ok (.ifCond .ne 6, 3) := dk_154 0 6 (dk_at dksX0_slips_2 0 rfl rfl)
theorem dX0_slips_51 : decode cX0_slips 51 = .ok (.goto 43, 3) := dk_167 0 43 (dk_at dksX0_slips_2 3 rfl rfl)
theorem dX0_slips_54 : decode cX0_slips 54 = .ok (.aload_n 0, 1) := dk_42 (dk_at dksX0_slips_2 6 rfl rfl)
theorem dX0_slips_55 : decode cX0_slips 55 = .ok (.dup, 1) := dk_89 (dk_at dksX0_slips_2 7 rfl rfl)
theorem dX0_slips_56 : decode cX0_slips 56 = .ok (.getfield 485, 3) := dk_180 1 229 (dk_at dksX0_slips_2 8 rfl rfl)
theorem dX0_slips_59 : decode cX0_slips 59 = .ok (.aload_n 0, 1) := dk_42 (dk_at dksX0_slips_2 11 rfl rfl)
theorem dX0_slips_60 : decode cX0_slips 60 = .ok (.iload_n 1, 1) := dk_27 (dk_at dksX0_slips_2 12 rfl rfl)
theorem dX0_slips_61 : decode cX0_slips 61 = .ok (.iload 4, 2) := dk_21 4 (dk_at dksX0_slips_2 13 rfl rfl)
theorem dX0_slips_63 : decode cX0_slips 63 = .ok (.invokevirtual 482, 3) := dk_182 1 226 (dk_at dksX0_slips_2 15 rfl rfl)
theorem dX0_slips_66 : decode cX0_slips 66 = .ok (.aload_n 0, 1) := dk_42 (dk_at dksX0_slips_2 18 rfl rfl)
theorem dX0_slips_67 : decode cX0_slips 67 = .ok (.iload_n 2, 1) := dk_28 (dk_at dksX0_slips_2 19 rfl rfl)
theorem dX0_slips_68 : decode cX0_slips 68 = .ok (.iload 4, 2) := dk_21 4 (dk_at dksX0_slips_2 20 rfl rfl)
theorem dX0_slips_70 : decode cX0_slips 70 = .ok (.iload_n 3, 1) := dk_29 (dk_at dksX0_slips_2 22 rfl rfl)
theorem dX0_slips_71 : decode cX0_slips 71 = .ok (.iadd, 1) := dk_96 (dk_at dksX0_slips_2 23 rfl rfl)
theorem dX0_slips_72 : decode cX0_slips 72 = .ok (.invokevirtual 482, 3) := dk_182 1 226 (dk_at dksX0_slips_3 0 rfl rfl)
theorem dX0_slips_75 : decode cX0_slips 75 = .ok (.isub, 1) := dk_100 (dk_at dksX0_slips_3 3 rfl rfl)
theorem dX0_slips_76 : decode cX0_slips 76 = .ok (.invokestatic 385, 3) := dk_184 1 129 (dk_at dksX0_slips_3 4 rfl rfl)
theorem dX0_slips_79 : decode cX0_slips 79 = .ok (.i2l, 1) := dk_133 (dk_at dksX0_slips_3 7 rfl rfl)
theorem dX0_slips_80 : decode cX0_slips 80 = .ok (.ladd, 1) := dk_97 (dk_at dksX0_slips_3 8 rfl rfl)
theorem dX0_slips_81 : decode cX0_slips 81 = .ok (.putfield 485, 3) := dk_181 1 229 (dk_at dksX0_slips_3 9 rfl rfl)
theorem dX0_slips_84 : decode cX0_slips 84 = .ok (.aload_n 0, 1) := dk_42 (dk_at dksX0_slips_3 12 rfl rfl)
theorem dX0_slips_85 : decode cX0_slips 85 = .ok (.dup, 1) := dk_89 (dk_at dksX0_slips_3 13 rfl rfl)
theorem dX0_slips_86 : decode cX0_slips 86 = .ok (.getfield 489, 3) := dk_180 1 233 (dk_at dksX0_slips_3 14 rfl rfl)
theorem dX0_slips_89 : decode cX0_slips 89 = .ok (.iconst 1, 1) := dk_4 (dk_at dksX0_slips_3 17 rfl rfl)
theorem dX0_slips_90 : decode cX0_slips 90 = .ok (.iadd, 1) := dk_96 (dk_at dksX0_slips_3 18 rfl rfl)
theorem dX0_slips_91 : decode cX0_slips 91 = .ok (.putfield 489, 3) := dk_181 1 233 (dk_at dksX0_slips_3 19 rfl rfl)
theorem dX0_slips_94 : decode cX0_slips 94 = .ok (.iinc 4 1, 3) := dk_132 4 1 (dk_at dksX0_slips_4 0 rfl rfl)
theorem dX0_slips_97 : decode cX0_slips 97 = .ok (.goto (-84), 3) := dk_167 255 172 (dk_at dksX0_slips_4 3 rfl rfl)
theorem dX0_slips_100 : decode cX0_slips 100 = .ok (.return_, 1) := dk_177 (dk_at dksX0_slips_4 6 rfl rfl)
abbrev cX0_numbers : ByteArray := prog_1_method_88_code
def yX0_numbers : MethodName := ⟨RX0, "numbers", "(III)I"⟩
def dkwX0_numbers_2 : List UInt8 := [29, 182, 1, 243, 153, 0, 7, 3, 167, 0, 9, 42, 16, 253, 182, 0, 73, 172]
abbrev dktX0_numbers_2 : List UInt8 := dkwX0_numbers_2 ++ []
def dkwX0_numbers_1 : List UInt8 := [182, 0, 73, 172, 29, 16, 40, 164, 0, 10, 42, 16, 253, 182, 0, 73, 172, 42, 180, 0, 66, 27, 50, 28]
abbrev dktX0_numbers_1 : List UInt8 := dkwX0_numbers_1 ++ dktX0_numbers_2
def dkwX0_numbers_0 : List UInt8 := [27, 184, 1, 184, 153, 0, 15, 28, 133, 9, 20, 0, 131, 184, 0, 81, 154, 0, 10, 42, 16, 254]
abbrev dktX0_numbers_0 : List UInt8 := dkwX0_numbers_0 ++ dktX0_numbers_1
theorem dksX0_numbers_0 : cX0_numbers.data.toList.drop 0 = dktX0_numbers_0 := by decide +kernel
theorem dksX0_numbers_1 : cX0_numbers.data.toList.drop 22 = dktX0_numbers_1 := dk_seg dksX0_numbers_0 22 rfl rfl
theorem dksX0_numbers_2 : cX0_numbers.data.toList.drop 46 = dktX0_numbers_2 := dk_seg dksX0_numbers_1 24 rfl rfl
theorem dX0_numbers_0 : decode cX0_numbers 0 = .ok (.iload_n 1, 1) := dk_27 (dk_at dksX0_numbers_0 0 rfl rfl)
theorem dX0_numbers_1 : decode cX0_numbers 1 = .ok (.invokestatic 440, 3) := dk_184 1 184 (dk_at dksX0_numbers_0 1 rfl rfl)
theorem dX0_numbers_4 : decode cX0_numbers 4 = .ok (.ifCond .eq 15, 3) := dk_153 0 15 (dk_at dksX0_numbers_0 4 rfl rfl)
theorem dX0_numbers_7 : decode cX0_numbers 7 = .ok (.iload_n 2, 1) := dk_28 (dk_at dksX0_numbers_0 7 rfl rfl)
theorem dX0_numbers_8 : decode cX0_numbers 8 = .ok (.i2l, 1) := dk_133 (dk_at dksX0_numbers_0 8 rfl rfl)
theorem dX0_numbers_9 : decode cX0_numbers 9 = .ok (.lconst 0, 1) := dk_9 (dk_at dksX0_numbers_0 9 rfl rfl)
theorem dX0_numbers_10 : decode cX0_numbers 10 = .ok (.ldc2_w 131, 3) := dk_20 0 131 (dk_at dksX0_numbers_0 10 rfl rfl)
theorem dX0_numbers_13 : decode cX0_numbers 13 = .ok (.invokestatic 81, 3) := dk_184 0 81 (dk_at dksX0_numbers_0 13 rfl rfl)
theorem dX0_numbers_16 : decode cX0_numbers 16 = .ok (.ifCond .ne 10, 3) := dk_154 0 10 (dk_at dksX0_numbers_0 16 rfl rfl)
theorem dX0_numbers_19 : decode cX0_numbers 19 = .ok (.aload_n 0, 1) := dk_42 (dk_at dksX0_numbers_0 19 rfl rfl)
theorem dX0_numbers_20 : decode cX0_numbers 20 = .ok (.bipush (-2), 2) := dk_16 254 (dk_at dksX0_numbers_0 20 rfl rfl)
theorem dX0_numbers_22 : decode cX0_numbers 22 = .ok (.invokevirtual 73, 3) := dk_182 0 73 (dk_at dksX0_numbers_1 0 rfl rfl)
theorem dX0_numbers_25 : decode cX0_numbers 25 = .ok (.ireturn, 1) := dk_172 (dk_at dksX0_numbers_1 3 rfl rfl)
theorem dX0_numbers_26 : decode cX0_numbers 26 = .ok (.iload_n 3, 1) := dk_29 (dk_at dksX0_numbers_1 4 rfl rfl)
theorem dX0_numbers_27 : decode cX0_numbers 27 = .ok (.bipush 40, 2) := dk_16 40 (dk_at dksX0_numbers_1 5 rfl rfl)
theorem dX0_numbers_29 : decode cX0_numbers 29 = .ok (.if_icmp .le 10, 3) := dk_164 0 10 (dk_at dksX0_numbers_1 7 rfl rfl)
theorem dX0_numbers_32 : decode cX0_numbers 32 = .ok (.aload_n 0, 1) := dk_42 (dk_at dksX0_numbers_1 10 rfl rfl)
theorem dX0_numbers_33 : decode cX0_numbers 33 = .ok (.bipush (-3), 2) := dk_16 253 (dk_at dksX0_numbers_1 11 rfl rfl)
theorem dX0_numbers_35 : decode cX0_numbers 35 = .ok (.invokevirtual 73, 3) := dk_182 0 73 (dk_at dksX0_numbers_1 13 rfl rfl)
theorem dX0_numbers_38 : decode cX0_numbers 38 = .ok (.ireturn, 1) := dk_172 (dk_at dksX0_numbers_1 16 rfl rfl)
theorem dX0_numbers_39 : decode cX0_numbers 39 = .ok (.aload_n 0, 1) := dk_42 (dk_at dksX0_numbers_1 17 rfl rfl)
theorem dX0_numbers_40 : decode cX0_numbers 40 = .ok (.getfield 66, 3) := dk_180 0 66 (dk_at dksX0_numbers_1 18 rfl rfl)
theorem dX0_numbers_43 : decode cX0_numbers 43 = .ok (.iload_n 1, 1) := dk_27 (dk_at dksX0_numbers_1 21 rfl rfl)
theorem dX0_numbers_44 : decode cX0_numbers 44 = .ok (.aaload, 1) := dk_50 (dk_at dksX0_numbers_1 22 rfl rfl)
theorem dX0_numbers_45 : decode cX0_numbers 45 = .ok (.iload_n 2, 1) := dk_28 (dk_at dksX0_numbers_1 23 rfl rfl)
theorem dX0_numbers_46 : decode cX0_numbers 46 = .ok (.iload_n 3, 1) := dk_29 (dk_at dksX0_numbers_2 0 rfl rfl)
theorem dX0_numbers_47 : decode cX0_numbers 47 = .ok (.invokevirtual 499, 3) := dk_182 1 243 (dk_at dksX0_numbers_2 1 rfl rfl)
theorem dX0_numbers_50 : decode cX0_numbers 50 = .ok (.ifCond .eq 7, 3) := dk_153 0 7 (dk_at dksX0_numbers_2 4 rfl rfl)
theorem dX0_numbers_53 : decode cX0_numbers 53 = .ok (.iconst 0, 1) := dk_3 (dk_at dksX0_numbers_2 7 rfl rfl)
theorem dX0_numbers_54 : decode cX0_numbers 54 = .ok (.goto 9, 3) := dk_167 0 9 (dk_at dksX0_numbers_2 8 rfl rfl)
theorem dX0_numbers_57 : decode cX0_numbers 57 = .ok (.aload_n 0, 1) := dk_42 (dk_at dksX0_numbers_2 11 rfl rfl)
theorem dX0_numbers_58 : decode cX0_numbers 58 = .ok (.bipush (-3), 2) := dk_16 253 (dk_at dksX0_numbers_2 12 rfl rfl)
theorem dX0_numbers_60 : decode cX0_numbers 60 = .ok (.invokevirtual 73, 3) := dk_182 0 73 (dk_at dksX0_numbers_2 14 rfl rfl)
theorem dX0_numbers_63 : decode cX0_numbers 63 = .ok (.ireturn, 1) := dk_172 (dk_at dksX0_numbers_2 17 rfl rfl)
abbrev cX0_write : ByteArray := prog_1_method_89_code
def yX0_write : MethodName := ⟨RX0, "write", "(IIJ)J"⟩
def dkwX0_write_2 : List UInt8 := [58, 5, 42, 16, 249, 182, 0, 73, 133, 173]
abbrev dktX0_write_2 : List UInt8 := dkwX0_write_2 ++ []
def dkwX0_write_1 : List UInt8 := [182, 1, 245, 42, 180, 0, 66, 27, 50, 28, 182, 1, 194, 173, 58, 5, 42, 16, 250, 182, 0, 73, 133, 173]
abbrev dktX0_write_1 : List UInt8 := dkwX0_write_1 ++ dktX0_write_2
def dkwX0_write_0 : List UInt8 := [27, 184, 1, 184, 154, 0, 11, 42, 16, 254, 182, 0, 73, 133, 173, 42, 180, 0, 66, 27, 50, 28, 33]
abbrev dktX0_write_0 : List UInt8 := dkwX0_write_0 ++ dktX0_write_1
theorem dksX0_write_0 : cX0_write.data.toList.drop 0 = dktX0_write_0 := by decide +kernel
theorem dksX0_write_1 : cX0_write.data.toList.drop 23 = dktX0_write_1 := dk_seg dksX0_write_0 23 rfl rfl
theorem dksX0_write_2 : cX0_write.data.toList.drop 47 = dktX0_write_2 := dk_seg dksX0_write_1 24 rfl rfl
theorem dX0_write_0 : decode cX0_write 0 = .ok (.iload_n 1, 1) := dk_27 (dk_at dksX0_write_0 0 rfl rfl)
theorem dX0_write_1 : decode cX0_write 1 = .ok (.invokestatic 440, 3) := dk_184 1 184 (dk_at dksX0_write_0 1 rfl rfl)
theorem dX0_write_4 : decode cX0_write 4 = .ok (.ifCond .ne 11, 3) := dk_154 0 11 (dk_at dksX0_write_0 4 rfl rfl)
theorem dX0_write_7 : decode cX0_write 7 = .ok (.aload_n 0, 1) := dk_42 (dk_at dksX0_write_0 7 rfl rfl)
theorem dX0_write_8 : decode cX0_write 8 = .ok (.bipush (-2), 2) := dk_16 254 (dk_at dksX0_write_0 8 rfl rfl)
theorem dX0_write_10 : decode cX0_write 10 = .ok (.invokevirtual 73, 3) := dk_182 0 73 (dk_at dksX0_write_0 10 rfl rfl)
theorem dX0_write_13 : decode cX0_write 13 = .ok (.i2l, 1) := dk_133 (dk_at dksX0_write_0 13 rfl rfl)
theorem dX0_write_14 : decode cX0_write 14 = .ok (.lreturn, 1) := dk_173 (dk_at dksX0_write_0 14 rfl rfl)
theorem dX0_write_15 : decode cX0_write 15 = .ok (.aload_n 0, 1) := dk_42 (dk_at dksX0_write_0 15 rfl rfl)
theorem dX0_write_16 : decode cX0_write 16 = .ok (.getfield 66, 3) := dk_180 0 66 (dk_at dksX0_write_0 16 rfl rfl)
theorem dX0_write_19 : decode cX0_write 19 = .ok (.iload_n 1, 1) := dk_27 (dk_at dksX0_write_0 19 rfl rfl)
theorem dX0_write_20 : decode cX0_write 20 = .ok (.aaload, 1) := dk_50 (dk_at dksX0_write_0 20 rfl rfl)
theorem dX0_write_21 : decode cX0_write 21 = .ok (.iload_n 2, 1) := dk_28 (dk_at dksX0_write_0 21 rfl rfl)
theorem dX0_write_22 : decode cX0_write 22 = .ok (.lload_n 3, 1) := dk_33 (dk_at dksX0_write_0 22 rfl rfl)
theorem dX0_write_23 : decode cX0_write 23 = .ok (.invokevirtual 501, 3) := dk_182 1 245 (dk_at dksX0_write_1 0 rfl rfl)
theorem dX0_write_26 : decode cX0_write 26 = .ok (.aload_n 0, 1) := dk_42 (dk_at dksX0_write_1 3 rfl rfl)
theorem dX0_write_27 : decode cX0_write 27 = .ok (.getfield 66, 3) := dk_180 0 66 (dk_at dksX0_write_1 4 rfl rfl)
theorem dX0_write_30 : decode cX0_write 30 = .ok (.iload_n 1, 1) := dk_27 (dk_at dksX0_write_1 7 rfl rfl)
theorem dX0_write_31 : decode cX0_write 31 = .ok (.aaload, 1) := dk_50 (dk_at dksX0_write_1 8 rfl rfl)
theorem dX0_write_32 : decode cX0_write 32 = .ok (.iload_n 2, 1) := dk_28 (dk_at dksX0_write_1 9 rfl rfl)
theorem dX0_write_33 : decode cX0_write 33 = .ok (.invokevirtual 450, 3) := dk_182 1 194 (dk_at dksX0_write_1 10 rfl rfl)
theorem dX0_write_36 : decode cX0_write 36 = .ok (.lreturn, 1) := dk_173 (dk_at dksX0_write_1 13 rfl rfl)
theorem dX0_write_37 : decode cX0_write 37 = .ok (.astore 5, 2) := dk_58 5 (dk_at dksX0_write_1 14 rfl rfl)
theorem dX0_write_39 : decode cX0_write 39 = .ok (.aload_n 0, 1) := dk_42 (dk_at dksX0_write_1 16 rfl rfl)
theorem dX0_write_40 : decode cX0_write 40 = .ok (.bipush (-6), 2) := dk_16 250 (dk_at dksX0_write_1 17 rfl rfl)
theorem dX0_write_42 : decode cX0_write 42 = .ok (.invokevirtual 73, 3) := dk_182 0 73 (dk_at dksX0_write_1 19 rfl rfl)
theorem dX0_write_45 : decode cX0_write 45 = .ok (.i2l, 1) := dk_133 (dk_at dksX0_write_1 22 rfl rfl)
theorem dX0_write_46 : decode cX0_write 46 = .ok (.lreturn, 1) := dk_173 (dk_at dksX0_write_1 23 rfl rfl)
theorem dX0_write_47 : decode cX0_write 47 = .ok (.astore 5, 2) := dk_58 5 (dk_at dksX0_write_2 0 rfl rfl)
theorem dX0_write_49 : decode cX0_write 49 = .ok (.aload_n 0, 1) := dk_42 (dk_at dksX0_write_2 2 rfl rfl)
theorem dX0_write_50 : decode cX0_write 50 = .ok (.bipush (-7), 2) := dk_16 249 (dk_at dksX0_write_2 3 rfl rfl)
theorem dX0_write_52 : decode cX0_write 52 = .ok (.invokevirtual 73, 3) := dk_182 0 73 (dk_at dksX0_write_2 5 rfl rfl)
theorem dX0_write_55 : decode cX0_write 55 = .ok (.i2l, 1) := dk_133 (dk_at dksX0_write_2 8 rfl rfl)
theorem dX0_write_56 : decode cX0_write 56 = .ok (.lreturn, 1) := dk_173 (dk_at dksX0_write_2 9 rfl rfl)
abbrev cX0_image : ByteArray := prog_1_method_90_code
def yX0_image : MethodName := ⟨RX0, "image", "(I)I"⟩
def dkwX0_image_1 : List UInt8 := [180, 0, 10, 182, 1, 253, 83, 3, 172]
abbrev dktX0_image_1 : List UInt8 := dkwX0_image_1 ++ []
def dkwX0_image_0 : List UInt8 := [27, 133, 9, 10, 184, 0, 81, 154, 0, 10, 42, 16, 254, 182, 0, 73, 172, 42, 180, 0, 16, 27, 42]
abbrev dktX0_image_0 : List UInt8 := dkwX0_image_0 ++ dktX0_image_1
theorem dksX0_image_0 : cX0_image.data.toList.drop 0 = dktX0_image_0 := by decide +kernel
theorem dksX0_image_1 : cX0_image.data.toList.drop 23 = dktX0_image_1 := dk_seg dksX0_image_0 23 rfl rfl
theorem dX0_image_0 : decode cX0_image 0 = .ok (.iload_n 1, 1) := dk_27 (dk_at dksX0_image_0 0 rfl rfl)
theorem dX0_image_1 : decode cX0_image 1 = .ok (.i2l, 1) := dk_133 (dk_at dksX0_image_0 1 rfl rfl)
theorem dX0_image_2 : decode cX0_image 2 = .ok (.lconst 0, 1) := dk_9 (dk_at dksX0_image_0 2 rfl rfl)
theorem dX0_image_3 : decode cX0_image 3 = .ok (.lconst 1, 1) := dk_10 (dk_at dksX0_image_0 3 rfl rfl)
theorem dX0_image_4 : decode cX0_image 4 = .ok (.invokestatic 81, 3) := dk_184 0 81 (dk_at dksX0_image_0 4 rfl rfl)
theorem dX0_image_7 : decode cX0_image 7 = .ok (.ifCond .ne 10, 3) := dk_154 0 10 (dk_at dksX0_image_0 7 rfl rfl)
theorem dX0_image_10 : decode cX0_image 10 = .ok (.aload_n 0, 1) := dk_42 (dk_at dksX0_image_0 10 rfl rfl)
theorem dX0_image_11 : decode cX0_image 11 = .ok (.bipush (-2), 2) := dk_16 254 (dk_at dksX0_image_0 11 rfl rfl)
theorem dX0_image_13 : decode cX0_image 13 = .ok (.invokevirtual 73, 3) := dk_182 0 73 (dk_at dksX0_image_0 13 rfl rfl)
theorem dX0_image_16 : decode cX0_image 16 = .ok (.ireturn, 1) := dk_172 (dk_at dksX0_image_0 16 rfl rfl)
theorem dX0_image_17 : decode cX0_image 17 = .ok (.aload_n 0, 1) := dk_42 (dk_at dksX0_image_0 17 rfl rfl)
theorem dX0_image_18 : decode cX0_image 18 = .ok (.getfield 16, 3) := dk_180 0 16 (dk_at dksX0_image_0 18 rfl rfl)
theorem dX0_image_21 : decode cX0_image 21 = .ok (.iload_n 1, 1) := dk_27 (dk_at dksX0_image_0 21 rfl rfl)
theorem dX0_image_22 : decode cX0_image 22 = .ok (.aload_n 0, 1) := dk_42 (dk_at dksX0_image_0 22 rfl rfl)
theorem dX0_image_23 : decode cX0_image 23 = .ok (.getfield 10, 3) := dk_180 0 10 (dk_at dksX0_image_1 0 rfl rfl)
theorem dX0_image_26 : decode cX0_image 26 = .ok (.invokevirtual 509, 3) := dk_182 1 253 (dk_at dksX0_image_1 3 rfl rfl)
theorem dX0_image_29 : decode cX0_image 29 = .ok (.aastore, 1) := dk_83 (dk_at dksX0_image_1 6 rfl rfl)
theorem dX0_image_30 : decode cX0_image 30 = .ok (.iconst 0, 1) := dk_3 (dk_at dksX0_image_1 7 rfl rfl)
theorem dX0_image_31 : decode cX0_image 31 = .ok (.ireturn, 1) := dk_172 (dk_at dksX0_image_1 8 rfl rfl)
abbrev cX0_restore : ByteArray := prog_1_method_91_code
def yX0_restore : MethodName := ⟨RX0, "restore", "(I)I"⟩
def dkwX0_restore_2 : List UInt8 := [172]
abbrev dktX0_restore_2 : List UInt8 := dkwX0_restore_2 ++ []
def dkwX0_restore_1 : List UInt8 := [199, 0, 10, 42, 16, 251, 182, 0, 73, 172, 42, 42, 180, 0, 16, 27, 50, 182, 1, 253, 181, 0, 10, 3]
abbrev dktX0_restore_1 : List UInt8 := dkwX0_restore_1 ++ dktX0_restore_2
def dkwX0_restore_0 : List UInt8 := [27, 133, 9, 10, 184, 0, 81, 154, 0, 10, 42, 16, 254, 182, 0, 73, 172, 42, 180, 0, 16, 27, 50]
abbrev dktX0_restore_0 : List UInt8 := dkwX0_restore_0 ++ dktX0_restore_1
theorem dksX0_restore_0 : cX0_restore.data.toList.drop 0 = dktX0_restore_0 := by decide +kernel
theorem dksX0_restore_1 : cX0_restore.data.toList.drop 23 = dktX0_restore_1 := dk_seg dksX0_restore_0 23 rfl rfl
theorem dksX0_restore_2 : cX0_restore.data.toList.drop 47 = dktX0_restore_2 := dk_seg dksX0_restore_1 24 rfl rfl
theorem dX0_restore_0 : decode cX0_restore 0 = .ok (.iload_n 1, 1) := dk_27 (dk_at dksX0_restore_0 0 rfl rfl)
theorem dX0_restore_1 : decode cX0_restore 1 = .ok (.i2l, 1) := dk_133 (dk_at dksX0_restore_0 1 rfl rfl)
theorem dX0_restore_2 : decode cX0_restore 2 = .ok (.lconst 0, 1) := dk_9 (dk_at dksX0_restore_0 2 rfl rfl)
theorem dX0_restore_3 : decode cX0_restore 3 = .ok (.lconst 1, 1) := dk_10 (dk_at dksX0_restore_0 3 rfl rfl)
theorem dX0_restore_4 : decode cX0_restore 4 = .ok (.invokestatic 81, 3) := dk_184 0 81 (dk_at dksX0_restore_0 4 rfl rfl)
theorem dX0_restore_7 : decode cX0_restore 7 = .ok (.ifCond .ne 10, 3) := dk_154 0 10 (dk_at dksX0_restore_0 7 rfl rfl)
theorem dX0_restore_10 : decode cX0_restore 10 = .ok (.aload_n 0, 1) := dk_42 (dk_at dksX0_restore_0 10 rfl rfl)
theorem dX0_restore_11 : decode cX0_restore 11 = .ok (.bipush (-2), 2) := dk_16 254 (dk_at dksX0_restore_0 11 rfl rfl)
theorem dX0_restore_13 : decode cX0_restore 13 = .ok (.invokevirtual 73, 3) := dk_182 0 73 (dk_at dksX0_restore_0 13 rfl rfl)
theorem dX0_restore_16 : decode cX0_restore 16 = .ok (.ireturn, 1) := dk_172 (dk_at dksX0_restore_0 16 rfl rfl)
theorem dX0_restore_17 : decode cX0_restore 17 = .ok (.aload_n 0, 1) := dk_42 (dk_at dksX0_restore_0 17 rfl rfl)
theorem dX0_restore_18 : decode cX0_restore 18 = .ok (.getfield 16, 3) := dk_180 0 16 (dk_at dksX0_restore_0 18 rfl rfl)
theorem dX0_restore_21 : decode cX0_restore 21 = .ok (.iload_n 1, 1) := dk_27 (dk_at dksX0_restore_0 21 rfl rfl)
theorem dX0_restore_22 : decode cX0_restore 22 = .ok (.aaload, 1) := dk_50 (dk_at dksX0_restore_0 22 rfl rfl)
theorem dX0_restore_23 : decode cX0_restore 23 = .ok (.ifnonnull 10, 3) := dk_199 0 10 (dk_at dksX0_restore_1 0 rfl rfl)
theorem dX0_restore_26 : decode cX0_restore 26 = .ok (.aload_n 0, 1) := dk_42 (dk_at dksX0_restore_1 3 rfl rfl)
theorem dX0_restore_27 : decode cX0_restore 27 = .ok (.bipush (-5), 2) := dk_16 251 (dk_at dksX0_restore_1 4 rfl rfl)
theorem dX0_restore_29 : decode cX0_restore 29 = .ok (.invokevirtual 73, 3) := dk_182 0 73 (dk_at dksX0_restore_1 6 rfl rfl)
theorem dX0_restore_32 : decode cX0_restore 32 = .ok (.ireturn, 1) := dk_172 (dk_at dksX0_restore_1 9 rfl rfl)
theorem dX0_restore_33 : decode cX0_restore 33 = .ok (.aload_n 0, 1) := dk_42 (dk_at dksX0_restore_1 10 rfl rfl)
theorem dX0_restore_34 : decode cX0_restore 34 = .ok (.aload_n 0, 1) := dk_42 (dk_at dksX0_restore_1 11 rfl rfl)
theorem dX0_restore_35 : decode cX0_restore 35 = .ok (.getfield 16, 3) := dk_180 0 16 (dk_at dksX0_restore_1 12 rfl rfl)
theorem dX0_restore_38 : decode cX0_restore 38 = .ok (.iload_n 1, 1) := dk_27 (dk_at dksX0_restore_1 15 rfl rfl)
theorem dX0_restore_39 : decode cX0_restore 39 = .ok (.aaload, 1) := dk_50 (dk_at dksX0_restore_1 16 rfl rfl)
theorem dX0_restore_40 : decode cX0_restore 40 = .ok (.invokevirtual 509, 3) := dk_182 1 253 (dk_at dksX0_restore_1 17 rfl rfl)
theorem dX0_restore_43 : decode cX0_restore 43 = .ok (.putfield 10, 3) := dk_181 0 10 (dk_at dksX0_restore_1 20 rfl rfl)
theorem dX0_restore_46 : decode cX0_restore 46 = .ok (.iconst 0, 1) := dk_3 (dk_at dksX0_restore_1 23 rfl rfl)
theorem dX0_restore_47 : decode cX0_restore 47 = .ok (.ireturn, 1) := dk_172 (dk_at dksX0_restore_2 0 rfl rfl)
abbrev cX0_status : ByteArray := prog_1_method_92_code
def yX0_status : MethodName := ⟨RX0, "status", "(I)I"⟩
def dkwX0_status_0 : List UInt8 := [27, 133, 9, 20, 0, 228, 184, 0, 81, 153, 0, 12, 42, 180, 0, 20, 27, 46, 167, 0, 4, 2, 172]
abbrev dktX0_status_0 : List UInt8 := dkwX0_status_0 ++ []
theorem dksX0_status_0 : cX0_status.data.toList.drop 0 = dktX0_status_0 := by decide +kernel
theorem dX0_status_0 : decode cX0_status 0 = .ok (.iload_n 1, 1) := dk_27 (dk_at dksX0_status_0 0 rfl rfl)
theorem dX0_status_1 : decode cX0_status 1 = .ok (.i2l, 1) := dk_133 (dk_at dksX0_status_0 1 rfl rfl)
theorem dX0_status_2 : decode cX0_status 2 = .ok (.lconst 0, 1) := dk_9 (dk_at dksX0_status_0 2 rfl rfl)
theorem dX0_status_3 : decode cX0_status 3 = .ok (.ldc2_w 228, 3) := dk_20 0 228 (dk_at dksX0_status_0 3 rfl rfl)
theorem dX0_status_6 : decode cX0_status 6 = .ok (.invokestatic 81, 3) := dk_184 0 81 (dk_at dksX0_status_0 6 rfl rfl)
theorem dX0_status_9 : decode cX0_status 9 = .ok (.ifCond .eq 12, 3) := dk_153 0 12 (dk_at dksX0_status_0 9 rfl rfl)
theorem dX0_status_12 : decode cX0_status 12 = .ok (.aload_n 0, 1) := dk_42 (dk_at dksX0_status_0 12 rfl rfl)
theorem dX0_status_13 : decode cX0_status 13 = .ok (.getfield 20, 3) := dk_180 0 20 (dk_at dksX0_status_0 13 rfl rfl)
theorem dX0_status_16 : decode cX0_status 16 = .ok (.iload_n 1, 1) := dk_27 (dk_at dksX0_status_0 16 rfl rfl)
theorem dX0_status_17 : decode cX0_status 17 = .ok (.iaload, 1) := dk_46 (dk_at dksX0_status_0 17 rfl rfl)
theorem dX0_status_18 : decode cX0_status 18 = .ok (.goto 4, 3) := dk_167 0 4 (dk_at dksX0_status_0 18 rfl rfl)
theorem dX0_status_21 : decode cX0_status 21 = .ok (.iconst (-1), 1) := dk_2 (dk_at dksX0_status_0 21 rfl rfl)
theorem dX0_status_22 : decode cX0_status 22 = .ok (.ireturn, 1) := dk_172 (dk_at dksX0_status_0 22 rfl rfl)
abbrev cX0_count : ByteArray := prog_1_method_93_code
def yX0_count : MethodName := ⟨RX0, "count", "(I)I"⟩
def dkwX0_count_5 : List UInt8 := [182, 0, 109, 172, 42, 180, 0, 70, 172, 42, 180, 0, 10, 180, 0, 118, 180, 0, 119, 172, 2, 172]
abbrev dktX0_count_5 : List UInt8 := dkwX0_count_5 ++ []
def dkwX0_count_4 : List UInt8 := [182, 0, 167, 172, 42, 180, 0, 10, 180, 0, 108, 182, 0, 109, 172, 42, 180, 0, 10, 180, 1, 72]
abbrev dktX0_count_4 : List UInt8 := dkwX0_count_4 ++ dktX0_count_5
def dkwX0_count_3 : List UInt8 := [172, 42, 180, 0, 10, 180, 0, 118, 180, 0, 156, 172, 42, 180, 0, 10, 180, 0, 118, 27, 6, 100]
abbrev dktX0_count_3 : List UInt8 := dkwX0_count_3 ++ dktX0_count_4
def dkwX0_count_2 : List UInt8 := [42, 180, 0, 10, 180, 0, 118, 180, 2, 0, 172, 42, 180, 0, 10, 180, 0, 118, 180, 0, 124, 182, 0, 109]
abbrev dktX0_count_2 : List UInt8 := dkwX0_count_2 ++ dktX0_count_3
def dkwX0_count_1 : List UInt8 := [170, 0, 0, 0, 0, 0, 147, 0, 0, 0, 0, 0, 0, 0, 10, 0, 0, 0, 59, 0, 0, 0, 70, 0, 0, 0, 84, 0, 0, 0, 95, 0, 0, 0, 95, 0, 0, 0, 95, 0, 0, 0, 95, 0, 0, 0, 109, 0, 0, 0, 120, 0, 0, 0, 131, 0, 0, 0, 136]
abbrev dktX0_count_1 : List UInt8 := dkwX0_count_1 ++ dktX0_count_2
def dkwX0_count_0 : List UInt8 := [27]
abbrev dktX0_count_0 : List UInt8 := dkwX0_count_0 ++ dktX0_count_1
theorem dksX0_count_0 : cX0_count.data.toList.drop 0 = dktX0_count_0 := by decide +kernel
theorem dksX0_count_1 : cX0_count.data.toList.drop 1 = dktX0_count_1 := dk_seg dksX0_count_0 1 rfl rfl
theorem dksX0_count_2 : cX0_count.data.toList.drop 60 = dktX0_count_2 := dk_seg dksX0_count_1 59 rfl rfl
theorem dksX0_count_3 : cX0_count.data.toList.drop 84 = dktX0_count_3 := dk_seg dksX0_count_2 24 rfl rfl
theorem dksX0_count_4 : cX0_count.data.toList.drop 106 = dktX0_count_4 := dk_seg dksX0_count_3 22 rfl rfl
theorem dksX0_count_5 : cX0_count.data.toList.drop 128 = dktX0_count_5 := dk_seg dksX0_count_4 22 rfl rfl
theorem dX0_count_0 : decode cX0_count 0 = .ok (.iload_n 1, 1) := dk_27 (dk_at dksX0_count_0 0 rfl rfl)
theorem dX0_count_1 : decode cX0_count 1 = .ok (.tableswitch 147 0 10 #[59, 70, 84, 95, 95, 95, 95, 109, 120, 131, 136], 59) := by decide +kernel
theorem dX0_count_60 : decode cX0_count 60 = .ok (.aload_n 0, 1) := dk_42 (dk_at dksX0_count_2 0 rfl rfl)
theorem dX0_count_61 : decode cX0_count 61 = .ok (.getfield 10, 3) := dk_180 0 10 (dk_at dksX0_count_2 1 rfl rfl)
theorem dX0_count_64 : decode cX0_count 64 = .ok (.getfield 118, 3) := dk_180 0 118 (dk_at dksX0_count_2 4 rfl rfl)
theorem dX0_count_67 : decode cX0_count 67 = .ok (.getfield 512, 3) := dk_180 2 0 (dk_at dksX0_count_2 7 rfl rfl)
theorem dX0_count_70 : decode cX0_count 70 = .ok (.ireturn, 1) := dk_172 (dk_at dksX0_count_2 10 rfl rfl)
theorem dX0_count_71 : decode cX0_count 71 = .ok (.aload_n 0, 1) := dk_42 (dk_at dksX0_count_2 11 rfl rfl)
theorem dX0_count_72 : decode cX0_count 72 = .ok (.getfield 10, 3) := dk_180 0 10 (dk_at dksX0_count_2 12 rfl rfl)
theorem dX0_count_75 : decode cX0_count 75 = .ok (.getfield 118, 3) := dk_180 0 118 (dk_at dksX0_count_2 15 rfl rfl)
theorem dX0_count_78 : decode cX0_count 78 = .ok (.getfield 124, 3) := dk_180 0 124 (dk_at dksX0_count_2 18 rfl rfl)
theorem dX0_count_81 : decode cX0_count 81 = .ok (.invokevirtual 109, 3) := dk_182 0 109 (dk_at dksX0_count_2 21 rfl rfl)
theorem dX0_count_84 : decode cX0_count 84 = .ok (.ireturn, 1) := dk_172 (dk_at dksX0_count_3 0 rfl rfl)
theorem dX0_count_85 : decode cX0_count 85 = .ok (.aload_n 0, 1) := dk_42 (dk_at dksX0_count_3 1 rfl rfl)
theorem dX0_count_86 : decode cX0_count 86 = .ok (.getfield 10, 3) := dk_180 0 10 (dk_at dksX0_count_3 2 rfl rfl)
theorem dX0_count_89 : decode cX0_count 89 = .ok (.getfield 118, 3) := dk_180 0 118 (dk_at dksX0_count_3 5 rfl rfl)
theorem dX0_count_92 : decode cX0_count 92 = .ok (.getfield 156, 3) := dk_180 0 156 (dk_at dksX0_count_3 8 rfl rfl)
theorem dX0_count_95 : decode cX0_count 95 = .ok (.ireturn, 1) := dk_172 (dk_at dksX0_count_3 11 rfl rfl)
theorem dX0_count_96 : decode cX0_count 96 = .ok (.aload_n 0, 1) := dk_42 (dk_at dksX0_count_3 12 rfl rfl)
theorem dX0_count_97 : decode cX0_count 97 = .ok (.getfield 10, 3) := dk_180 0 10 (dk_at dksX0_count_3 13 rfl rfl)
theorem dX0_count_100 : decode cX0_count 100 = .ok (.getfield 118, 3) := dk_180 0 118 (dk_at dksX0_count_3 16 rfl rfl)
theorem dX0_count_103 : decode cX0_count 103 = .ok (.iload_n 1, 1) := dk_27 (dk_at dksX0_count_3 19 rfl rfl)
theorem dX0_count_104 : decode cX0_count 104 = .ok (.iconst 3, 1) := dk_6 (dk_at dksX0_count_3 20 rfl rfl)
theorem dX0_count_105 : decode cX0_count 105 = .ok (.isub, 1) := dk_100 (dk_at dksX0_count_3 21 rfl rfl)
theorem dX0_count_106 : decode cX0_count 106 = .ok (.invokevirtual 167, 3) := dk_182 0 167 (dk_at dksX0_count_4 0 rfl rfl)
theorem dX0_count_109 : decode cX0_count 109 = .ok (.ireturn, 1) := dk_172 (dk_at dksX0_count_4 3 rfl rfl)
theorem dX0_count_110 : decode cX0_count 110 = .ok (.aload_n 0, 1) := dk_42 (dk_at dksX0_count_4 4 rfl rfl)
theorem dX0_count_111 : decode cX0_count 111 = .ok (.getfield 10, 3) := dk_180 0 10 (dk_at dksX0_count_4 5 rfl rfl)
theorem dX0_count_114 : decode cX0_count 114 = .ok (.getfield 108, 3) := dk_180 0 108 (dk_at dksX0_count_4 8 rfl rfl)
theorem dX0_count_117 : decode cX0_count 117 = .ok (.invokevirtual 109, 3) := dk_182 0 109 (dk_at dksX0_count_4 11 rfl rfl)
theorem dX0_count_120 : decode cX0_count 120 = .ok (.ireturn, 1) := dk_172 (dk_at dksX0_count_4 14 rfl rfl)
theorem dX0_count_121 : decode cX0_count 121 = .ok (.aload_n 0, 1) := dk_42 (dk_at dksX0_count_4 15 rfl rfl)
theorem dX0_count_122 : decode cX0_count 122 = .ok (.getfield 10, 3) := dk_180 0 10 (dk_at dksX0_count_4 16 rfl rfl)
theorem dX0_count_125 : decode cX0_count 125 = .ok (.getfield 328, 3) := dk_180 1 72 (dk_at dksX0_count_4 19 rfl rfl)
theorem dX0_count_128 : decode cX0_count 128 = .ok (.invokevirtual 109, 3) := dk_182 0 109 (dk_at dksX0_count_5 0 rfl rfl)
theorem dX0_count_131 : decode cX0_count 131 = .ok (.ireturn, 1) := dk_172 (dk_at dksX0_count_5 3 rfl rfl)
theorem dX0_count_132 : decode cX0_count 132 = .ok (.aload_n 0, 1) := dk_42 (dk_at dksX0_count_5 4 rfl rfl)
theorem dX0_count_133 : decode cX0_count 133 = .ok (.getfield 70, 3) := dk_180 0 70 (dk_at dksX0_count_5 5 rfl rfl)
theorem dX0_count_136 : decode cX0_count 136 = .ok (.ireturn, 1) := dk_172 (dk_at dksX0_count_5 8 rfl rfl)
theorem dX0_count_137 : decode cX0_count 137 = .ok (.aload_n 0, 1) := dk_42 (dk_at dksX0_count_5 9 rfl rfl)
theorem dX0_count_138 : decode cX0_count 138 = .ok (.getfield 10, 3) := dk_180 0 10 (dk_at dksX0_count_5 10 rfl rfl)
theorem dX0_count_141 : decode cX0_count 141 = .ok (.getfield 118, 3) := dk_180 0 118 (dk_at dksX0_count_5 13 rfl rfl)
theorem dX0_count_144 : decode cX0_count 144 = .ok (.getfield 119, 3) := dk_180 0 119 (dk_at dksX0_count_5 16 rfl rfl)
theorem dX0_count_147 : decode cX0_count 147 = .ok (.ireturn, 1) := dk_172 (dk_at dksX0_count_5 19 rfl rfl)
theorem dX0_count_148 : decode cX0_count 148 = .ok (.iconst (-1), 1) := dk_2 (dk_at dksX0_count_5 20 rfl rfl)
theorem dX0_count_149 : decode cX0_count 149 = .ok (.ireturn, 1) := dk_172 (dk_at dksX0_count_5 21 rfl rfl)
theorem q124 : (Jvm.Cond.initialized "FootOut") ∈ lw_all := lw_g (lw_at lw_m1 1 rfl) rfl
theorem q165 : (Jvm.Cond.instantiable "FootOut" (18 : Nat)) ∈ lw_all := lw_g (lw_at lw_m1 42 rfl) rfl
theorem q167 : (Jvm.Cond.instanceMethod ({ cls := "FootOut", name := "<init>", desc := "()V" } : Jvm.MethodName)) ∈ lw_all := lw_g (lw_at lw_m1 44 rfl) rfl
theorem q168 : (Jvm.Cond.code ({ cls := "FootOut", name := "<init>", desc := "()V" } : Jvm.MethodName) prog_1_method_3_code (1 : Nat) (Option.none : Option Jvm.ClassFile.FieldType)) ∈ lw_all := lw_g (lw_at lw_m1 45 rfl) rfl
theorem q169 : (Jvm.Cond.methodLink "FootOut" (1 : Nat) ({ cls := "java/lang/Object", name := "<init>", desc := "()V" } : Jvm.MethodName)) ∈ lw_all := lw_g (lw_at lw_m1 46 rfl) rfl
theorem q172 : (Jvm.Cond.classLink "FootOut" (7 : Nat) "FootOut$State") ∈ lw_all := lw_g (lw_at lw_m1 49 rfl) rfl
theorem q174 : (Jvm.Cond.methodLinkNest "FootOut" (9 : Nat) ({ cls := "FootOut$State", name := "<init>", desc := "()V" } : Jvm.MethodName) "FootOut") ∈ lw_tbl := lw_at lw_m1 51 rfl
theorem q214 : (Jvm.Cond.fieldLinkNest "FootOut" (124 : Nat) "FootOut$Scene" "cars" "Ljava/util/ArrayList;" "FootOut") ∈ lw_tbl := lw_at lw_m1 91 rfl
theorem q219 : (Jvm.Cond.fieldLinkNest "FootOut" (512 : Nat) "FootOut$Scene" "lanes" "I" "FootOut") ∈ lw_tbl := lw_at lw_m1 96 rfl
theorem q223 : (Jvm.Cond.fieldLinkNest "FootOut" (156 : Nat) "FootOut$Scene" "traits" "I" "FootOut") ∈ lw_tbl := lw_at lw_m1 100 rfl
theorem q228 : (Jvm.Cond.fieldLinkNest "FootOut" (291 : Nat) "FootOut$Scene" "line" "I" "FootOut") ∈ lw_tbl := lw_at lw_m1 105 rfl
theorem q239 : (Jvm.Cond.fieldLinkNest "FootOut" (119 : Nat) "FootOut$Scene" "lines" "I" "FootOut") ∈ lw_tbl := lw_at lw_m1 116 rfl
theorem q261 : (Jvm.Cond.fieldLinkNest "FootOut" (118 : Nat) "FootOut$State" "scene" "LFootOut$Scene;" "FootOut") ∈ lw_tbl := lw_at lw_m1 138 rfl
theorem q263 : (Jvm.Cond.fieldLinkNest "FootOut" (108 : Nat) "FootOut$State" "law" "Ljava/util/ArrayList;" "FootOut") ∈ lw_tbl := lw_at lw_m1 140 rfl
theorem q265 : (Jvm.Cond.fieldLinkNest "FootOut" (328 : Nat) "FootOut$State" "places" "Ljava/util/ArrayList;" "FootOut") ∈ lw_tbl := lw_at lw_m1 142 rfl
theorem q267 : (Jvm.Cond.fieldLinkNest "FootOut" (406 : Nat) "FootOut$State" "cost" "[I" "FootOut") ∈ lw_tbl := lw_at lw_m1 144 rfl
theorem q269 : (Jvm.Cond.fieldLinkNest "FootOut" (409 : Nat) "FootOut$State" "left" "[I" "FootOut") ∈ lw_tbl := lw_at lw_m1 146 rfl
theorem q271 : (Jvm.Cond.fieldLinkNest "FootOut" (461 : Nat) "FootOut$State" "pay" "[I" "FootOut") ∈ lw_tbl := lw_at lw_m1 148 rfl
theorem q287 : (Jvm.Cond.classLink "FootOut" (32 : Nat) "FootOut$Walk") ∈ lw_all := lw_g (lw_at lw_m1 164 rfl) rfl
theorem q289 : (Jvm.Cond.methodLinkNest "FootOut" (34 : Nat) ({ cls := "FootOut$Walk", name := "<init>", desc := "()V" } : Jvm.MethodName) "FootOut") ∈ lw_tbl := lw_at lw_m1 166 rfl
theorem q298 : (Jvm.Cond.fieldLinkNest "FootOut" (249 : Nat) "FootOut$Walk" "dist" "[I" "FootOut") ∈ lw_tbl := lw_at lw_m1 175 rfl
theorem q301 : (Jvm.Cond.fieldLinkNest "FootOut" (251 : Nat) "FootOut$Walk" "pace" "[I" "FootOut") ∈ lw_tbl := lw_at lw_m1 178 rfl
theorem q306 : (Jvm.Cond.fieldLinkNest "FootOut" (209 : Nat) "FootOut$Walk" "decided" "[I" "FootOut") ∈ lw_tbl := lw_at lw_m1 183 rfl
theorem q308 : (Jvm.Cond.fieldLinkNest "FootOut" (253 : Nat) "FootOut$Walk" "isHeld" "[Z" "FootOut") ∈ lw_tbl := lw_at lw_m1 185 rfl
theorem q314 : (Jvm.Cond.fieldLinkNest "FootOut" (257 : Nat) "FootOut$Walk" "past" "I" "FootOut") ∈ lw_tbl := lw_at lw_m1 191 rfl
theorem q317 : (Jvm.Cond.fieldLinkNest "FootOut" (260 : Nat) "FootOut$Walk" "inFor" "I" "FootOut") ∈ lw_tbl := lw_at lw_m1 194 rfl
theorem q319 : (Jvm.Cond.fieldLinkNest "FootOut" (244 : Nat) "FootOut$Walk" "stood" "I" "FootOut") ∈ lw_tbl := lw_at lw_m1 196 rfl
theorem q321 : (Jvm.Cond.fieldLinkNest "FootOut" (221 : Nat) "FootOut$Walk" "ticks" "I" "FootOut") ∈ lw_tbl := lw_at lw_m1 198 rfl
theorem q323 : (Jvm.Cond.fieldLinkNest "FootOut" (218 : Nat) "FootOut$Walk" "end" "I" "FootOut") ∈ lw_tbl := lw_at lw_m1 200 rfl
theorem q325 : (Jvm.Cond.fieldLinkNest "FootOut" (237 : Nat) "FootOut$Walk" "by" "I" "FootOut") ∈ lw_tbl := lw_at lw_m1 202 rfl
theorem q327 : (Jvm.Cond.fieldLinkNest "FootOut" (234 : Nat) "FootOut$Walk" "harm" "I" "FootOut") ∈ lw_tbl := lw_at lw_m1 204 rfl
theorem q357 : (Jvm.Cond.methodLink "FootOut" (39 : Nat) ({ cls := "FootOut", name := "walks", desc := "()[LFootOut$Walk;" } : Jvm.MethodName)) ∈ lw_all := lw_g (lw_at lw_m1 234 rfl) rfl
theorem q358 : (Jvm.Cond.static ({ cls := "FootOut", name := "walks", desc := "()[LFootOut$Walk;" } : Jvm.MethodName)) ∈ lw_all := lw_g (lw_at lw_m1 235 rfl) rfl
theorem q359 : (Jvm.Cond.code ({ cls := "FootOut", name := "walks", desc := "()[LFootOut$Walk;" } : Jvm.MethodName) prog_1_method_25_code (2 : Nat) (Option.some (Jvm.ClassFile.FieldType.array (Jvm.ClassFile.FieldType.object "FootOut$Walk")))) ∈ lw_all := lw_g (lw_at lw_m1 236 rfl) rfl
theorem q361 : (Jvm.Cond.classLink "FootOut" (63 : Nat) "FootOut$Numbers") ∈ lw_all := lw_g (lw_at lw_m1 238 rfl) rfl
theorem q364 : (Jvm.Cond.methodLinkNest "FootOut" (65 : Nat) ({ cls := "FootOut$Numbers", name := "<init>", desc := "()V" } : Jvm.MethodName) "FootOut") ∈ lw_tbl := lw_at lw_m2 1 rfl
theorem q369 : (Jvm.Cond.fieldLinkNest "FootOut" (445 : Nat) "FootOut$Numbers" "held" "Ljava/lang/Object;" "FootOut") ∈ lw_tbl := lw_at lw_m2 6 rfl
theorem q374 : (Jvm.Cond.fieldLink "FootOut" (10 : Nat) "FootOut" "s" "LFootOut$State;") ∈ lw_all := lw_g (lw_at lw_m2 11 rfl) rfl
theorem q375 : (Jvm.Cond.fieldLink "FootOut" (16 : Nat) "FootOut" "images" "[LFootOut$State;") ∈ lw_all := lw_g (lw_at lw_m2 12 rfl) rfl
theorem q376 : (Jvm.Cond.fieldLink "FootOut" (20 : Nat) "FootOut" "refused" "[I") ∈ lw_all := lw_g (lw_at lw_m2 13 rfl) rfl
theorem q378 : (Jvm.Cond.fieldLink "FootOut" (24 : Nat) "FootOut" "tape" "[B") ∈ lw_all := lw_g (lw_at lw_m2 15 rfl) rfl
theorem q379 : (Jvm.Cond.fieldLink "FootOut" (70 : Nat) "FootOut" "taped" "I") ∈ lw_all := lw_g (lw_at lw_m2 16 rfl) rfl
theorem q380 : (Jvm.Cond.fieldLink "FootOut" (99 : Nat) "FootOut" "faultKind" "I") ∈ lw_all := lw_g (lw_at lw_m2 17 rfl) rfl
theorem q381 : (Jvm.Cond.fieldLink "FootOut" (28 : Nat) "FootOut" "faultPlace" "I") ∈ lw_all := lw_g (lw_at lw_m2 18 rfl) rfl
theorem q382 : (Jvm.Cond.fieldLink "FootOut" (35 : Nat) "FootOut" "walk" "LFootOut$Walk;") ∈ lw_all := lw_g (lw_at lw_m2 19 rfl) rfl
theorem q383 : (Jvm.Cond.fieldLink "FootOut" (200 : Nat) "FootOut" "x" "I") ∈ lw_all := lw_g (lw_at lw_m2 20 rfl) rfl
theorem q384 : (Jvm.Cond.fieldLink "FootOut" (43 : Nat) "FootOut" "fork" "[LFootOut$Walk;") ∈ lw_all := lw_g (lw_at lw_m2 21 rfl) rfl
theorem q385 : (Jvm.Cond.fieldLink "FootOut" (47 : Nat) "FootOut" "parts" "[J") ∈ lw_all := lw_g (lw_at lw_m2 22 rfl) rfl
theorem q386 : (Jvm.Cond.fieldLink "FootOut" (51 : Nat) "FootOut" "blamed" "[J") ∈ lw_all := lw_g (lw_at lw_m2 23 rfl) rfl
theorem q387 : (Jvm.Cond.fieldLink "FootOut" (54 : Nat) "FootOut" "stopping" "[J") ∈ lw_all := lw_g (lw_at lw_m2 24 rfl) rfl
theorem q388 : (Jvm.Cond.fieldLink "FootOut" (57 : Nat) "FootOut" "cheapest" "[J") ∈ lw_all := lw_g (lw_at lw_m2 25 rfl) rfl
theorem q389 : (Jvm.Cond.fieldLink "FootOut" (60 : Nat) "FootOut" "goesAt" "[I") ∈ lw_all := lw_g (lw_at lw_m2 26 rfl) rfl
theorem q390 : (Jvm.Cond.fieldLink "FootOut" (485 : Nat) "FootOut" "slipSum" "J") ∈ lw_all := lw_g (lw_at lw_m2 27 rfl) rfl
theorem q391 : (Jvm.Cond.fieldLink "FootOut" (489 : Nat) "FootOut" "slipMany" "I") ∈ lw_all := lw_g (lw_at lw_m2 28 rfl) rfl
theorem q392 : (Jvm.Cond.fieldLink "FootOut" (66 : Nat) "FootOut" "rows" "[LFootOut$Numbers;") ∈ lw_all := lw_g (lw_at lw_m2 29 rfl) rfl
theorem q393 : (Jvm.Cond.lays "FootOut" "FootOut" "s" "LFootOut$State;") ∈ lw_all := lw_g (lw_at lw_m2 30 rfl) rfl
theorem q394 : (Jvm.Cond.soleField "FootOut" "s") ∈ lw_all := lw_g (lw_at lw_m2 31 rfl) rfl
theorem q395 : (Jvm.Cond.laysFinal "FootOut" "FootOut" "images" "[LFootOut$State;") ∈ lw_all := lw_g (lw_at lw_m2 32 rfl) rfl
theorem q396 : (Jvm.Cond.soleField "FootOut" "images") ∈ lw_all := lw_g (lw_at lw_m2 33 rfl) rfl
theorem q397 : (Jvm.Cond.laysFinal "FootOut" "FootOut" "refused" "[I") ∈ lw_all := lw_g (lw_at lw_m2 34 rfl) rfl
theorem q398 : (Jvm.Cond.soleField "FootOut" "refused") ∈ lw_all := lw_g (lw_at lw_m2 35 rfl) rfl
theorem q399 : (Jvm.Cond.laysFinal "FootOut" "FootOut" "tape" "[B") ∈ lw_all := lw_g (lw_at lw_m2 36 rfl) rfl
theorem q400 : (Jvm.Cond.soleField "FootOut" "tape") ∈ lw_all := lw_g (lw_at lw_m2 37 rfl) rfl
theorem q401 : (Jvm.Cond.lays "FootOut" "FootOut" "taped" "I") ∈ lw_all := lw_g (lw_at lw_m2 38 rfl) rfl
theorem q402 : (Jvm.Cond.soleField "FootOut" "taped") ∈ lw_all := lw_g (lw_at lw_m2 39 rfl) rfl
theorem q403 : (Jvm.Cond.lays "FootOut" "FootOut" "faultKind" "I") ∈ lw_all := lw_g (lw_at lw_m2 40 rfl) rfl
theorem q404 : (Jvm.Cond.soleField "FootOut" "faultKind") ∈ lw_all := lw_g (lw_at lw_m2 41 rfl) rfl
theorem q405 : (Jvm.Cond.lays "FootOut" "FootOut" "faultPlace" "I") ∈ lw_all := lw_g (lw_at lw_m2 42 rfl) rfl
theorem q406 : (Jvm.Cond.soleField "FootOut" "faultPlace") ∈ lw_all := lw_g (lw_at lw_m2 43 rfl) rfl
theorem q407 : (Jvm.Cond.laysFinal "FootOut" "FootOut" "walk" "LFootOut$Walk;") ∈ lw_all := lw_g (lw_at lw_m2 44 rfl) rfl
theorem q408 : (Jvm.Cond.soleField "FootOut" "walk") ∈ lw_all := lw_g (lw_at lw_m2 45 rfl) rfl
theorem q409 : (Jvm.Cond.lays "FootOut" "FootOut" "x" "I") ∈ lw_all := lw_g (lw_at lw_m2 46 rfl) rfl
theorem q410 : (Jvm.Cond.soleField "FootOut" "x") ∈ lw_all := lw_g (lw_at lw_m2 47 rfl) rfl
theorem q411 : (Jvm.Cond.laysFinal "FootOut" "FootOut" "fork" "[LFootOut$Walk;") ∈ lw_all := lw_g (lw_at lw_m2 48 rfl) rfl
theorem q412 : (Jvm.Cond.soleField "FootOut" "fork") ∈ lw_all := lw_g (lw_at lw_m2 49 rfl) rfl
theorem q413 : (Jvm.Cond.laysFinal "FootOut" "FootOut" "parts" "[J") ∈ lw_all := lw_g (lw_at lw_m2 50 rfl) rfl
theorem q414 : (Jvm.Cond.soleField "FootOut" "parts") ∈ lw_all := lw_g (lw_at lw_m2 51 rfl) rfl
theorem q415 : (Jvm.Cond.laysFinal "FootOut" "FootOut" "blamed" "[J") ∈ lw_all := lw_g (lw_at lw_m2 52 rfl) rfl
theorem q416 : (Jvm.Cond.soleField "FootOut" "blamed") ∈ lw_all := lw_g (lw_at lw_m2 53 rfl) rfl
theorem q417 : (Jvm.Cond.laysFinal "FootOut" "FootOut" "stopping" "[J") ∈ lw_all := lw_g (lw_at lw_m2 54 rfl) rfl
theorem q418 : (Jvm.Cond.soleField "FootOut" "stopping") ∈ lw_all := lw_g (lw_at lw_m2 55 rfl) rfl
theorem q419 : (Jvm.Cond.laysFinal "FootOut" "FootOut" "cheapest" "[J") ∈ lw_all := lw_g (lw_at lw_m2 56 rfl) rfl
theorem q420 : (Jvm.Cond.soleField "FootOut" "cheapest") ∈ lw_all := lw_g (lw_at lw_m2 57 rfl) rfl
theorem q421 : (Jvm.Cond.laysFinal "FootOut" "FootOut" "goesAt" "[I") ∈ lw_all := lw_g (lw_at lw_m2 58 rfl) rfl
theorem q422 : (Jvm.Cond.soleField "FootOut" "goesAt") ∈ lw_all := lw_g (lw_at lw_m2 59 rfl) rfl
theorem q423 : (Jvm.Cond.lays "FootOut" "FootOut" "slipSum" "J") ∈ lw_all := lw_g (lw_at lw_m2 60 rfl) rfl
theorem q424 : (Jvm.Cond.soleField "FootOut" "slipSum") ∈ lw_all := lw_g (lw_at lw_m2 61 rfl) rfl
theorem q425 : (Jvm.Cond.lays "FootOut" "FootOut" "slipMany" "I") ∈ lw_all := lw_g (lw_at lw_m2 62 rfl) rfl
theorem q426 : (Jvm.Cond.soleField "FootOut" "slipMany") ∈ lw_all := lw_g (lw_at lw_m2 63 rfl) rfl
theorem q427 : (Jvm.Cond.laysFinal "FootOut" "FootOut" "rows" "[LFootOut$Numbers;") ∈ lw_all := lw_g (lw_at lw_m2 64 rfl) rfl
theorem q428 : (Jvm.Cond.soleField "FootOut" "rows") ∈ lw_all := lw_g (lw_at lw_m2 65 rfl) rfl
theorem q429 : (Jvm.Cond.superclass "FootOut" "java/lang/Object") ∈ lw_all := lw_g (lw_at lw_m2 66 rfl) rfl
theorem q431 : (Jvm.Cond.instanceMethod ({ cls := "FootOut", name := "feed", desc := "(IIIII)I" } : Jvm.MethodName)) ∈ lw_all := lw_g (lw_at lw_m2 68 rfl) rfl
theorem q432 : (Jvm.Cond.selects "FootOut" ({ cls := "FootOut", name := "feed", desc := "(IIIII)I" } : Jvm.MethodName) ({ cls := "FootOut", name := "feed", desc := "(IIIII)I" } : Jvm.MethodName)) ∈ lw_all := lw_g (lw_at lw_m2 69 rfl) rfl
theorem q433 : (Jvm.Cond.code ({ cls := "FootOut", name := "feed", desc := "(IIIII)I" } : Jvm.MethodName) prog_1_method_5_code (6 : Nat) (Option.some Jvm.ClassFile.FieldType.int)) ∈ lw_all := lw_g (lw_at lw_m2 70 rfl) rfl
theorem q434 : (Jvm.Cond.methodLink "FootOut" (73 : Nat) ({ cls := "FootOut", name := "no", desc := "(I)I" } : Jvm.MethodName)) ∈ lw_all := lw_g (lw_at lw_m2 71 rfl) rfl
theorem q435 : (Jvm.Cond.privateMethod ({ cls := "FootOut", name := "no", desc := "(I)I" } : Jvm.MethodName)) ∈ lw_tbl := lw_at lw_m2 72 rfl
theorem q436 : (Jvm.Cond.instanceMethod ({ cls := "FootOut", name := "no", desc := "(I)I" } : Jvm.MethodName)) ∈ lw_all := lw_g (lw_at lw_m2 73 rfl) rfl
theorem q437 : (Jvm.Cond.code ({ cls := "FootOut", name := "no", desc := "(I)I" } : Jvm.MethodName) prog_1_method_4_code (2 : Nat) (Option.some Jvm.ClassFile.FieldType.int)) ∈ lw_all := lw_g (lw_at lw_m2 74 rfl) rfl
theorem q438 : (Jvm.Cond.methodLink "FootOut" (77 : Nat) ({ cls := "FootOut", name := "bytes", desc := "(I)V" } : Jvm.MethodName)) ∈ lw_all := lw_g (lw_at lw_m2 75 rfl) rfl
theorem q439 : (Jvm.Cond.privateMethod ({ cls := "FootOut", name := "bytes", desc := "(I)V" } : Jvm.MethodName)) ∈ lw_tbl := lw_at lw_m2 76 rfl
theorem q440 : (Jvm.Cond.instanceMethod ({ cls := "FootOut", name := "bytes", desc := "(I)V" } : Jvm.MethodName)) ∈ lw_all := lw_g (lw_at lw_m2 77 rfl) rfl
theorem q441 : (Jvm.Cond.code ({ cls := "FootOut", name := "bytes", desc := "(I)V" } : Jvm.MethodName) prog_1_method_6_code (3 : Nat) (Option.none : Option Jvm.ClassFile.FieldType)) ∈ lw_all := lw_g (lw_at lw_m2 78 rfl) rfl
theorem q443 : (Jvm.Cond.instanceMethod ({ cls := "FootOut", name := "text", desc := "(II)I" } : Jvm.MethodName)) ∈ lw_all := lw_g (lw_at lw_m2 80 rfl) rfl
theorem q444 : (Jvm.Cond.selects "FootOut" ({ cls := "FootOut", name := "text", desc := "(II)I" } : Jvm.MethodName) ({ cls := "FootOut", name := "text", desc := "(II)I" } : Jvm.MethodName)) ∈ lw_all := lw_g (lw_at lw_m2 81 rfl) rfl
theorem q445 : (Jvm.Cond.code ({ cls := "FootOut", name := "text", desc := "(II)I" } : Jvm.MethodName) prog_1_method_7_code (4 : Nat) (Option.some Jvm.ClassFile.FieldType.int)) ∈ lw_all := lw_g (lw_at lw_m2 82 rfl) rfl
theorem q446 : (Jvm.Cond.methodLink "FootOut" (81 : Nat) ({ cls := "FootOut", name := "in", desc := "(JJJ)Z" } : Jvm.MethodName)) ∈ lw_all := lw_g (lw_at lw_m2 83 rfl) rfl
theorem q447 : (Jvm.Cond.static ({ cls := "FootOut", name := "in", desc := "(JJJ)Z" } : Jvm.MethodName)) ∈ lw_all := lw_g (lw_at lw_m2 84 rfl) rfl
theorem q448 : (Jvm.Cond.code ({ cls := "FootOut", name := "in", desc := "(JJJ)Z" } : Jvm.MethodName) prog_1_method_1_code (6 : Nat) (Option.some Jvm.ClassFile.FieldType.boolean)) ∈ lw_all := lw_g (lw_at lw_m2 85 rfl) rfl
theorem q449 : (Jvm.Cond.classLink "FootOut" (85 : Nat) "FootOut$Reader") ∈ lw_all := lw_g (lw_at lw_m2 86 rfl) rfl
theorem q451 : (Jvm.Cond.methodLink "FootOut" (87 : Nat) ({ cls := "FootOut$Reader", name := "<init>", desc := "(LFootOut;I)V" } : Jvm.MethodName)) ∈ lw_all := lw_g (lw_at lw_m2 88 rfl) rfl
theorem q461 : (Jvm.Cond.fieldLinkNest "FootOut" (115 : Nat) "FootOut$Reader" "scene" "LFootOut$Scene;" "FootOut") ∈ lw_tbl := lw_at lw_m2 98 rfl
theorem q463 : (Jvm.Cond.fieldLinkNest "FootOut" (105 : Nat) "FootOut$Reader" "law" "Ljava/util/ArrayList;" "FootOut") ∈ lw_tbl := lw_at lw_m2 100 rfl
theorem q470 : (Jvm.Cond.fieldLinkNest "FootOut" (96 : Nat) "FootOut$Reader" "fault" "I" "FootOut") ∈ lw_tbl := lw_at lw_m2 107 rfl
theorem q472 : (Jvm.Cond.fieldLinkNest "FootOut" (102 : Nat) "FootOut$Reader" "place" "I" "FootOut") ∈ lw_tbl := lw_at lw_m2 109 rfl
theorem q497 : (Jvm.Cond.methodLink "FootOut" (90 : Nat) ({ cls := "FootOut$Reader", name := "scene", desc := "()V" } : Jvm.MethodName)) ∈ lw_all := lw_g (lw_at lw_m2 134 rfl) rfl
theorem q622 : (Jvm.Cond.fieldLinkNest "FootOut" (139 : Nat) "FootOut$Car" "lane" "I" "FootOut") ∈ lw_tbl := lw_at lw_m3 19 rfl
theorem q626 : (Jvm.Cond.fieldLinkNest "FootOut" (142 : Nat) "FootOut$Car" "dist" "I" "FootOut") ∈ lw_tbl := lw_at lw_m3 23 rfl
theorem q629 : (Jvm.Cond.fieldLinkNest "FootOut" (145 : Nat) "FootOut$Car" "pace" "I" "FootOut") ∈ lw_tbl := lw_at lw_m3 26 rfl
theorem q633 : (Jvm.Cond.fieldLinkNest "FootOut" (148 : Nat) "FootOut$Car" "kind" "I" "FootOut") ∈ lw_tbl := lw_at lw_m3 30 rfl
theorem q677 : (Jvm.Cond.selects "FootOut" ({ cls := "java/lang/Object", name := "getClass", desc := "()Ljava/lang/Class;" } : Jvm.MethodName) ({ cls := "java/lang/Object", name := "getClass", desc := "()Ljava/lang/Class;" } : Jvm.MethodName)) ∈ lw_all := lw_g (lw_at lw_m3 74 rfl) rfl
theorem q754 : (Jvm.Cond.methodLink "FootOut" (93 : Nat) ({ cls := "FootOut$Reader", name := "law", desc := "()V" } : Jvm.MethodName)) ∈ lw_all := lw_g (lw_at lw_m3 151 rfl) rfl
theorem q880 : (Jvm.Cond.fieldLinkNest "FootOut" (185 : Nat) "FootOut$Stop" "hundredths" "I" "FootOut") ∈ lw_tbl := lw_at lw_m4 37 rfl
theorem q882 : (Jvm.Cond.fieldLinkNest "FootOut" (175 : Nat) "FootOut$Stop" "when" "LFootOut$Fact;" "FootOut") ∈ lw_tbl := lw_at lw_m4 39 rfl
theorem q888 : (Jvm.Cond.methodLink "FootOut" (109 : Nat) ({ cls := "java/util/ArrayList", name := "size", desc := "()I" } : Jvm.MethodName)) ∈ lw_all := lw_g (lw_at lw_m4 45 rfl) rfl
theorem q890 : (Jvm.Cond.instanceMethod ({ cls := "FootOut", name := "fault", desc := "(I)I" } : Jvm.MethodName)) ∈ lw_all := lw_g (lw_at lw_m4 47 rfl) rfl
theorem q891 : (Jvm.Cond.selects "FootOut" ({ cls := "FootOut", name := "fault", desc := "(I)I" } : Jvm.MethodName) ({ cls := "FootOut", name := "fault", desc := "(I)I" } : Jvm.MethodName)) ∈ lw_all := lw_g (lw_at lw_m4 48 rfl) rfl
theorem q892 : (Jvm.Cond.code ({ cls := "FootOut", name := "fault", desc := "(I)I" } : Jvm.MethodName) prog_1_method_8_code (2 : Nat) (Option.some Jvm.ClassFile.FieldType.int)) ∈ lw_all := lw_g (lw_at lw_m4 49 rfl) rfl
theorem q894 : (Jvm.Cond.instanceMethod ({ cls := "FootOut", name := "car", desc := "(II)I" } : Jvm.MethodName)) ∈ lw_all := lw_g (lw_at lw_m4 51 rfl) rfl
theorem q895 : (Jvm.Cond.selects "FootOut" ({ cls := "FootOut", name := "car", desc := "(II)I" } : Jvm.MethodName) ({ cls := "FootOut", name := "car", desc := "(II)I" } : Jvm.MethodName)) ∈ lw_all := lw_g (lw_at lw_m4 52 rfl) rfl
theorem q896 : (Jvm.Cond.code ({ cls := "FootOut", name := "car", desc := "(II)I" } : Jvm.MethodName) prog_1_method_10_code (4 : Nat) (Option.some Jvm.ClassFile.FieldType.int)) ∈ lw_all := lw_g (lw_at lw_m4 53 rfl) rfl
theorem q897 : (Jvm.Cond.methodLink "FootOut" (127 : Nat) ({ cls := "FootOut", name := "isCar", desc := "(I)Z" } : Jvm.MethodName)) ∈ lw_all := lw_g (lw_at lw_m4 54 rfl) rfl
theorem q898 : (Jvm.Cond.privateMethod ({ cls := "FootOut", name := "isCar", desc := "(I)Z" } : Jvm.MethodName)) ∈ lw_tbl := lw_at lw_m4 55 rfl
theorem q899 : (Jvm.Cond.instanceMethod ({ cls := "FootOut", name := "isCar", desc := "(I)Z" } : Jvm.MethodName)) ∈ lw_all := lw_g (lw_at lw_m4 56 rfl) rfl
theorem q900 : (Jvm.Cond.code ({ cls := "FootOut", name := "isCar", desc := "(I)Z" } : Jvm.MethodName) prog_1_method_9_code (2 : Nat) (Option.some Jvm.ClassFile.FieldType.boolean)) ∈ lw_all := lw_g (lw_at lw_m4 57 rfl) rfl
theorem q901 : (Jvm.Cond.constantLong "FootOut" (131 : Nat) (3 : Int64)) ∈ lw_all := lw_g (lw_at lw_m4 58 rfl) rfl
theorem q902 : (Jvm.Cond.methodLink "FootOut" (133 : Nat) ({ cls := "java/util/ArrayList", name := "get", desc := "(I)Ljava/lang/Object;" } : Jvm.MethodName)) ∈ lw_all := lw_g (lw_at lw_m4 59 rfl) rfl
theorem q903 : (Jvm.Cond.classLink "FootOut" (137 : Nat) "FootOut$Car") ∈ lw_all := lw_g (lw_at lw_m4 60 rfl) rfl
theorem q905 : (Jvm.Cond.instanceMethod ({ cls := "FootOut", name := "trait", desc := "(IZ)I" } : Jvm.MethodName)) ∈ lw_all := lw_g (lw_at lw_m4 62 rfl) rfl
theorem q906 : (Jvm.Cond.selects "FootOut" ({ cls := "FootOut", name := "trait", desc := "(IZ)I" } : Jvm.MethodName) ({ cls := "FootOut", name := "trait", desc := "(IZ)I" } : Jvm.MethodName)) ∈ lw_all := lw_g (lw_at lw_m4 63 rfl) rfl
theorem q907 : (Jvm.Cond.code ({ cls := "FootOut", name := "trait", desc := "(IZ)I" } : Jvm.MethodName) prog_1_method_12_code (4 : Nat) (Option.some Jvm.ClassFile.FieldType.int)) ∈ lw_all := lw_g (lw_at lw_m4 64 rfl) rfl
theorem q908 : (Jvm.Cond.methodLink "FootOut" (153 : Nat) ({ cls := "FootOut", name := "isTrait", desc := "(I)Z" } : Jvm.MethodName)) ∈ lw_all := lw_g (lw_at lw_m4 65 rfl) rfl
theorem q909 : (Jvm.Cond.static ({ cls := "FootOut", name := "isTrait", desc := "(I)Z" } : Jvm.MethodName)) ∈ lw_all := lw_g (lw_at lw_m4 66 rfl) rfl
theorem q910 : (Jvm.Cond.code ({ cls := "FootOut", name := "isTrait", desc := "(I)Z" } : Jvm.MethodName) prog_1_method_11_code (1 : Nat) (Option.some Jvm.ClassFile.FieldType.boolean)) ∈ lw_all := lw_g (lw_at lw_m4 67 rfl) rfl
theorem q911 : (Jvm.Cond.constantLong "FootOut" (151 : Nat) (7 : Int64)) ∈ lw_all := lw_g (lw_at lw_m4 68 rfl) rfl
theorem q913 : (Jvm.Cond.instanceMethod ({ cls := "FootOut", name := "set", desc := "(II)I" } : Jvm.MethodName)) ∈ lw_all := lw_g (lw_at lw_m4 70 rfl) rfl
theorem q914 : (Jvm.Cond.selects "FootOut" ({ cls := "FootOut", name := "set", desc := "(II)I" } : Jvm.MethodName) ({ cls := "FootOut", name := "set", desc := "(II)I" } : Jvm.MethodName)) ∈ lw_all := lw_g (lw_at lw_m4 71 rfl) rfl
theorem q915 : (Jvm.Cond.code ({ cls := "FootOut", name := "set", desc := "(II)I" } : Jvm.MethodName) prog_1_method_13_code (4 : Nat) (Option.some Jvm.ClassFile.FieldType.int)) ∈ lw_all := lw_g (lw_at lw_m4 72 rfl) rfl
theorem q916 : (Jvm.Cond.constantLong "FootOut" (159 : Nat) (30 : Int64)) ∈ lw_all := lw_g (lw_at lw_m4 73 rfl) rfl
theorem q917 : (Jvm.Cond.constantLong "FootOut" (161 : Nat) (20 : Int64)) ∈ lw_all := lw_g (lw_at lw_m4 74 rfl) rfl
theorem q918 : (Jvm.Cond.constantLong "FootOut" (163 : Nat) (60 : Int64)) ∈ lw_all := lw_g (lw_at lw_m4 75 rfl) rfl
theorem q919 : (Jvm.Cond.constantLong "FootOut" (165 : Nat) (200 : Int64)) ∈ lw_all := lw_g (lw_at lw_m4 76 rfl) rfl
theorem q920 : (Jvm.Cond.methodLink "FootOut" (167 : Nat) ({ cls := "FootOut$Scene", name := "get", desc := "(I)I" } : Jvm.MethodName)) ∈ lw_all := lw_g (lw_at lw_m4 77 rfl) rfl
theorem q924 : (Jvm.Cond.methodLink "FootOut" (169 : Nat) ({ cls := "FootOut$Scene", name := "put", desc := "(II)V" } : Jvm.MethodName)) ∈ lw_all := lw_g (lw_at lw_m4 81 rfl) rfl
theorem q929 : (Jvm.Cond.instanceMethod ({ cls := "FootOut", name := "chance", desc := "(I)I" } : Jvm.MethodName)) ∈ lw_all := lw_g (lw_at lw_m4 86 rfl) rfl
theorem q930 : (Jvm.Cond.selects "FootOut" ({ cls := "FootOut", name := "chance", desc := "(I)I" } : Jvm.MethodName) ({ cls := "FootOut", name := "chance", desc := "(I)I" } : Jvm.MethodName)) ∈ lw_all := lw_g (lw_at lw_m4 87 rfl) rfl
theorem q931 : (Jvm.Cond.code ({ cls := "FootOut", name := "chance", desc := "(I)I" } : Jvm.MethodName) prog_1_method_15_code (2 : Nat) (Option.some Jvm.ClassFile.FieldType.int)) ∈ lw_all := lw_g (lw_at lw_m4 88 rfl) rfl
theorem q932 : (Jvm.Cond.methodLink "FootOut" (188 : Nat) ({ cls := "FootOut$Walk", name := "begins", desc := "(LFootOut$Scene;)LFootOut$Walk;" } : Jvm.MethodName)) ∈ lw_all := lw_g (lw_at lw_m4 89 rfl) rfl
theorem q952 : (Jvm.Cond.static ({ cls := "FootOut", name := "has", desc := "(II)Z" } : Jvm.MethodName)) ∈ lw_all := lw_g (lw_at lw_m4 109 rfl) rfl
theorem q953 : (Jvm.Cond.code ({ cls := "FootOut", name := "has", desc := "(II)Z" } : Jvm.MethodName) prog_1_method_2_code (2 : Nat) (Option.some Jvm.ClassFile.FieldType.boolean)) ∈ lw_all := lw_g (lw_at lw_m4 110 rfl) rfl
theorem q957 : (Jvm.Cond.methodLink "FootOut" (192 : Nat) ({ cls := "FootOut", name := "chanceOf", desc := "(LFootOut$Walk;I)I" } : Jvm.MethodName)) ∈ lw_all := lw_g (lw_at lw_m4 114 rfl) rfl
theorem q958 : (Jvm.Cond.privateMethod ({ cls := "FootOut", name := "chanceOf", desc := "(LFootOut$Walk;I)I" } : Jvm.MethodName)) ∈ lw_tbl := lw_at lw_m4 115 rfl
theorem q959 : (Jvm.Cond.instanceMethod ({ cls := "FootOut", name := "chanceOf", desc := "(LFootOut$Walk;I)I" } : Jvm.MethodName)) ∈ lw_all := lw_g (lw_at lw_m4 116 rfl) rfl
theorem q960 : (Jvm.Cond.code ({ cls := "FootOut", name := "chanceOf", desc := "(LFootOut$Walk;I)I" } : Jvm.MethodName) prog_1_method_14_code (4 : Nat) (Option.some Jvm.ClassFile.FieldType.int)) ∈ lw_all := lw_g (lw_at lw_m4 117 rfl) rfl
theorem q961 : (Jvm.Cond.classLink "FootOut" (173 : Nat) "FootOut$Stop") ∈ lw_all := lw_g (lw_at lw_m4 118 rfl) rfl
theorem q962 : (Jvm.Cond.methodLink "FootOut" (179 : Nat) ({ cls := "FootOut$Fact", name := "is", desc := "(LFootOut$Walk;I)Z" } : Jvm.MethodName)) ∈ lw_all := lw_g (lw_at lw_m4 119 rfl) rfl
theorem q1009 : (Jvm.Cond.instanceMethod ({ cls := "FootOut", name := "can", desc := "(I)I" } : Jvm.MethodName)) ∈ lw_all := lw_g (lw_at lw_m4 166 rfl) rfl
theorem q1010 : (Jvm.Cond.selects "FootOut" ({ cls := "FootOut", name := "can", desc := "(I)I" } : Jvm.MethodName) ({ cls := "FootOut", name := "can", desc := "(I)I" } : Jvm.MethodName)) ∈ lw_all := lw_g (lw_at lw_m4 167 rfl) rfl
theorem q1011 : (Jvm.Cond.code ({ cls := "FootOut", name := "can", desc := "(I)I" } : Jvm.MethodName) prog_1_method_16_code (2 : Nat) (Option.some Jvm.ClassFile.FieldType.int)) ∈ lw_all := lw_g (lw_at lw_m4 168 rfl) rfl
theorem q1012 : (Jvm.Cond.methodLink "FootOut" (196 : Nat) ({ cls := "FootOut$Walk", name := "can", desc := "(I)Z" } : Jvm.MethodName)) ∈ lw_all := lw_g (lw_at lw_m4 169 rfl) rfl
theorem q1017 : (Jvm.Cond.instanceMethod ({ cls := "FootOut", name := "run", desc := "(II)I" } : Jvm.MethodName)) ∈ lw_all := lw_g (lw_at lw_m4 174 rfl) rfl
theorem q1018 : (Jvm.Cond.selects "FootOut" ({ cls := "FootOut", name := "run", desc := "(II)I" } : Jvm.MethodName) ({ cls := "FootOut", name := "run", desc := "(II)I" } : Jvm.MethodName)) ∈ lw_all := lw_g (lw_at lw_m4 175 rfl) rfl
theorem q1019 : (Jvm.Cond.code ({ cls := "FootOut", name := "run", desc := "(II)I" } : Jvm.MethodName) prog_1_method_21_code (4 : Nat) (Option.some Jvm.ClassFile.FieldType.int)) ∈ lw_all := lw_g (lw_at lw_m4 176 rfl) rfl
theorem q1020 : (Jvm.Cond.constantLong "FootOut" (228 : Nat) (5 : Int64)) ∈ lw_all := lw_g (lw_at lw_m4 177 rfl) rfl
theorem q1021 : (Jvm.Cond.methodLink "FootOut" (230 : Nat) ({ cls := "FootOut", name := "runs", desc := "(II)LFootOut$Walk;" } : Jvm.MethodName)) ∈ lw_all := lw_g (lw_at lw_m4 178 rfl) rfl
theorem q1022 : (Jvm.Cond.privateMethod ({ cls := "FootOut", name := "runs", desc := "(II)LFootOut$Walk;" } : Jvm.MethodName)) ∈ lw_tbl := lw_at lw_m4 179 rfl
theorem q1023 : (Jvm.Cond.instanceMethod ({ cls := "FootOut", name := "runs", desc := "(II)LFootOut$Walk;" } : Jvm.MethodName)) ∈ lw_all := lw_g (lw_at lw_m4 180 rfl) rfl
theorem q1024 : (Jvm.Cond.code ({ cls := "FootOut", name := "runs", desc := "(II)LFootOut$Walk;" } : Jvm.MethodName) prog_1_method_19_code (3 : Nat) (Option.some (Jvm.ClassFile.FieldType.object "FootOut$Walk"))) ∈ lw_all := lw_g (lw_at lw_m4 181 rfl) rfl
theorem q1025 : (Jvm.Cond.methodLink "FootOut" (224 : Nat) ({ cls := "FootOut", name := "tick", desc := "(LFootOut$Walk;)V" } : Jvm.MethodName)) ∈ lw_all := lw_g (lw_at lw_m4 182 rfl) rfl
theorem q1026 : (Jvm.Cond.privateMethod ({ cls := "FootOut", name := "tick", desc := "(LFootOut$Walk;)V" } : Jvm.MethodName)) ∈ lw_tbl := lw_at lw_m4 183 rfl
theorem q1027 : (Jvm.Cond.instanceMethod ({ cls := "FootOut", name := "tick", desc := "(LFootOut$Walk;)V" } : Jvm.MethodName)) ∈ lw_all := lw_g (lw_at lw_m4 184 rfl) rfl
theorem q1028 : (Jvm.Cond.code ({ cls := "FootOut", name := "tick", desc := "(LFootOut$Walk;)V" } : Jvm.MethodName) prog_1_method_18_code (4 : Nat) (Option.none : Option Jvm.ClassFile.FieldType)) ∈ lw_all := lw_g (lw_at lw_m4 185 rfl) rfl
theorem q1029 : (Jvm.Cond.methodLink "FootOut" (203 : Nat) ({ cls := "FootOut$Walk", name := "many", desc := "()I" } : Jvm.MethodName)) ∈ lw_all := lw_g (lw_at lw_m4 186 rfl) rfl
theorem q1030 : (Jvm.Cond.methodLink "FootOut" (206 : Nat) ({ cls := "FootOut$Walk", name := "isAsked", desc := "(I)Z" } : Jvm.MethodName)) ∈ lw_all := lw_g (lw_at lw_m4 187 rfl) rfl
theorem q1035 : (Jvm.Cond.methodLink "FootOut" (212 : Nat) ({ cls := "FootOut", name := "draw", desc := "(I)I" } : Jvm.MethodName)) ∈ lw_all := lw_g (lw_at lw_m4 192 rfl) rfl
theorem q1036 : (Jvm.Cond.privateMethod ({ cls := "FootOut", name := "draw", desc := "(I)I" } : Jvm.MethodName)) ∈ lw_tbl := lw_at lw_m4 193 rfl
theorem q1037 : (Jvm.Cond.instanceMethod ({ cls := "FootOut", name := "draw", desc := "(I)I" } : Jvm.MethodName)) ∈ lw_all := lw_g (lw_at lw_m4 194 rfl) rfl
theorem q1038 : (Jvm.Cond.code ({ cls := "FootOut", name := "draw", desc := "(I)I" } : Jvm.MethodName) prog_1_method_17_code (2 : Nat) (Option.some Jvm.ClassFile.FieldType.int)) ∈ lw_all := lw_g (lw_at lw_m4 195 rfl) rfl
theorem q1039 : (Jvm.Cond.constant "FootOut" (199 : Nat) (1103515245 : Int32)) ∈ lw_all := lw_g (lw_at lw_m4 196 rfl) rfl
theorem q1040 : (Jvm.Cond.methodLink "FootOut" (215 : Nat) ({ cls := "FootOut$Walk", name := "goesOn", desc := "()V" } : Jvm.MethodName)) ∈ lw_all := lw_g (lw_at lw_m4 197 rfl) rfl
theorem q1076 : (Jvm.Cond.methodLink "FootOut" (240 : Nat) ({ cls := "FootOut", name := "stopped", desc := "(LFootOut$Walk;)I" } : Jvm.MethodName)) ∈ lw_all := lw_g (lw_at lw_m4 233 rfl) rfl
theorem q1077 : (Jvm.Cond.privateMethod ({ cls := "FootOut", name := "stopped", desc := "(LFootOut$Walk;)I" } : Jvm.MethodName)) ∈ lw_tbl := lw_at lw_m4 234 rfl
theorem q1078 : (Jvm.Cond.instanceMethod ({ cls := "FootOut", name := "stopped", desc := "(LFootOut$Walk;)I" } : Jvm.MethodName)) ∈ lw_all := lw_g (lw_at lw_m4 235 rfl) rfl
theorem q1079 : (Jvm.Cond.code ({ cls := "FootOut", name := "stopped", desc := "(LFootOut$Walk;)I" } : Jvm.MethodName) prog_1_method_20_code (4 : Nat) (Option.some Jvm.ClassFile.FieldType.int)) ∈ lw_all := lw_g (lw_at lw_m4 236 rfl) rfl
theorem q1081 : (Jvm.Cond.instanceMethod ({ cls := "FootOut", name := "watch", desc := "(IIII)I" } : Jvm.MethodName)) ∈ lw_all := lw_g (lw_at lw_m4 238 rfl) rfl
theorem q1082 : (Jvm.Cond.selects "FootOut" ({ cls := "FootOut", name := "watch", desc := "(IIII)I" } : Jvm.MethodName) ({ cls := "FootOut", name := "watch", desc := "(IIII)I" } : Jvm.MethodName)) ∈ lw_all := lw_g (lw_at lw_m4 239 rfl) rfl
theorem q1083 : (Jvm.Cond.code ({ cls := "FootOut", name := "watch", desc := "(IIII)I" } : Jvm.MethodName) prog_1_method_22_code (6 : Nat) (Option.some Jvm.ClassFile.FieldType.int)) ∈ lw_all := lw_g (lw_at lw_m5 0 rfl) rfl
theorem q1084 : (Jvm.Cond.constantLong "FootOut" (247 : Nat) (99 : Int64)) ∈ lw_all := lw_g (lw_at lw_m5 1 rfl) rfl
theorem q1086 : (Jvm.Cond.instanceMethod ({ cls := "FootOut", name := "stands", desc := "(II)I" } : Jvm.MethodName)) ∈ lw_all := lw_g (lw_at lw_m5 3 rfl) rfl
theorem q1087 : (Jvm.Cond.selects "FootOut" ({ cls := "FootOut", name := "stands", desc := "(II)I" } : Jvm.MethodName) ({ cls := "FootOut", name := "stands", desc := "(II)I" } : Jvm.MethodName)) ∈ lw_all := lw_g (lw_at lw_m5 4 rfl) rfl
theorem q1088 : (Jvm.Cond.code ({ cls := "FootOut", name := "stands", desc := "(II)I" } : Jvm.MethodName) prog_1_method_23_code (4 : Nat) (Option.some Jvm.ClassFile.FieldType.int)) ∈ lw_all := lw_g (lw_at lw_m5 5 rfl) rfl
theorem q1090 : (Jvm.Cond.instanceMethod ({ cls := "FootOut", name := "tries", desc := "(III)I" } : Jvm.MethodName)) ∈ lw_all := lw_g (lw_at lw_m5 7 rfl) rfl
theorem q1091 : (Jvm.Cond.selects "FootOut" ({ cls := "FootOut", name := "tries", desc := "(III)I" } : Jvm.MethodName) ({ cls := "FootOut", name := "tries", desc := "(III)I" } : Jvm.MethodName)) ∈ lw_all := lw_g (lw_at lw_m5 8 rfl) rfl
theorem q1092 : (Jvm.Cond.code ({ cls := "FootOut", name := "tries", desc := "(III)I" } : Jvm.MethodName) prog_1_method_24_code (7 : Nat) (Option.some Jvm.ClassFile.FieldType.int)) ∈ lw_all := lw_g (lw_at lw_m5 9 rfl) rfl
theorem q1094 : (Jvm.Cond.instanceMethod ({ cls := "FootOut", name := "odds", desc := "(I)J" } : Jvm.MethodName)) ∈ lw_all := lw_g (lw_at lw_m5 11 rfl) rfl
theorem q1095 : (Jvm.Cond.selects "FootOut" ({ cls := "FootOut", name := "odds", desc := "(I)J" } : Jvm.MethodName) ({ cls := "FootOut", name := "odds", desc := "(I)J" } : Jvm.MethodName)) ∈ lw_all := lw_g (lw_at lw_m5 12 rfl) rfl
theorem q1096 : (Jvm.Cond.code ({ cls := "FootOut", name := "odds", desc := "(I)J" } : Jvm.MethodName) prog_1_method_29_code (2 : Nat) (Option.some Jvm.ClassFile.FieldType.long)) ∈ lw_all := lw_g (lw_at lw_m5 13 rfl) rfl
theorem q1097 : (Jvm.Cond.methodLink "FootOut" (276 : Nat) ({ cls := "FootOut", name := "gathers", desc := "(LFootOut$Scene;)V" } : Jvm.MethodName)) ∈ lw_all := lw_g (lw_at lw_m5 14 rfl) rfl
theorem q1098 : (Jvm.Cond.privateMethod ({ cls := "FootOut", name := "gathers", desc := "(LFootOut$Scene;)V" } : Jvm.MethodName)) ∈ lw_tbl := lw_at lw_m5 15 rfl
theorem q1099 : (Jvm.Cond.instanceMethod ({ cls := "FootOut", name := "gathers", desc := "(LFootOut$Scene;)V" } : Jvm.MethodName)) ∈ lw_all := lw_g (lw_at lw_m5 16 rfl) rfl
theorem q1100 : (Jvm.Cond.code ({ cls := "FootOut", name := "gathers", desc := "(LFootOut$Scene;)V" } : Jvm.MethodName) prog_1_method_28_code (3 : Nat) (Option.none : Option Jvm.ClassFile.FieldType)) ∈ lw_all := lw_g (lw_at lw_m5 17 rfl) rfl
theorem q1101 : (Jvm.Cond.methodLink "FootOut" (268 : Nat) ({ cls := "FootOut", name := "forks", desc := "(IIJ)V" } : Jvm.MethodName)) ∈ lw_all := lw_g (lw_at lw_m5 18 rfl) rfl
theorem q1102 : (Jvm.Cond.privateMethod ({ cls := "FootOut", name := "forks", desc := "(IIJ)V" } : Jvm.MethodName)) ∈ lw_tbl := lw_at lw_m5 19 rfl
theorem q1103 : (Jvm.Cond.instanceMethod ({ cls := "FootOut", name := "forks", desc := "(IIJ)V" } : Jvm.MethodName)) ∈ lw_all := lw_g (lw_at lw_m5 20 rfl) rfl
theorem q1104 : (Jvm.Cond.code ({ cls := "FootOut", name := "forks", desc := "(IIJ)V" } : Jvm.MethodName) prog_1_method_27_code (11 : Nat) (Option.none : Option Jvm.ClassFile.FieldType)) ∈ lw_all := lw_g (lw_at lw_m5 21 rfl) rfl
theorem q1105 : (Jvm.Cond.methodLink "FootOut" (265 : Nat) ({ cls := "FootOut$Walk", name := "be", desc := "(LFootOut$Walk;)V" } : Jvm.MethodName)) ∈ lw_all := lw_g (lw_at lw_m5 22 rfl) rfl
theorem q1109 : (Jvm.Cond.constantLong "FootOut" (263 : Nat) (100 : Int64)) ∈ lw_all := lw_g (lw_at lw_m5 26 rfl) rfl
theorem q1110 : (Jvm.Cond.methodLink "FootOut" (272 : Nat) ({ cls := "FootOut", name := "counts", desc := "(LFootOut$Walk;J)V" } : Jvm.MethodName)) ∈ lw_all := lw_g (lw_at lw_m5 27 rfl) rfl
theorem q1111 : (Jvm.Cond.privateMethod ({ cls := "FootOut", name := "counts", desc := "(LFootOut$Walk;J)V" } : Jvm.MethodName)) ∈ lw_tbl := lw_at lw_m5 28 rfl
theorem q1112 : (Jvm.Cond.instanceMethod ({ cls := "FootOut", name := "counts", desc := "(LFootOut$Walk;J)V" } : Jvm.MethodName)) ∈ lw_all := lw_g (lw_at lw_m5 29 rfl) rfl
theorem q1113 : (Jvm.Cond.code ({ cls := "FootOut", name := "counts", desc := "(LFootOut$Walk;J)V" } : Jvm.MethodName) prog_1_method_26_code (7 : Nat) (Option.none : Option Jvm.ClassFile.FieldType)) ∈ lw_all := lw_g (lw_at lw_m5 30 rfl) rfl
theorem q1115 : (Jvm.Cond.instanceMethod ({ cls := "FootOut", name := "helps", desc := "(I)J" } : Jvm.MethodName)) ∈ lw_all := lw_g (lw_at lw_m5 32 rfl) rfl
theorem q1116 : (Jvm.Cond.selects "FootOut" ({ cls := "FootOut", name := "helps", desc := "(I)J" } : Jvm.MethodName) ({ cls := "FootOut", name := "helps", desc := "(I)J" } : Jvm.MethodName)) ∈ lw_all := lw_g (lw_at lw_m5 33 rfl) rfl
theorem q1117 : (Jvm.Cond.code ({ cls := "FootOut", name := "helps", desc := "(I)J" } : Jvm.MethodName) prog_1_method_31_code (2 : Nat) (Option.some Jvm.ClassFile.FieldType.long)) ∈ lw_all := lw_g (lw_at lw_m5 34 rfl) rfl
theorem q1118 : (Jvm.Cond.methodLink "FootOut" (280 : Nat) ({ cls := "FootOut", name := "overBy", desc := "(I)J" } : Jvm.MethodName)) ∈ lw_all := lw_g (lw_at lw_m5 35 rfl) rfl
theorem q1119 : (Jvm.Cond.privateMethod ({ cls := "FootOut", name := "overBy", desc := "(I)J" } : Jvm.MethodName)) ∈ lw_tbl := lw_at lw_m5 36 rfl
theorem q1120 : (Jvm.Cond.instanceMethod ({ cls := "FootOut", name := "overBy", desc := "(I)J" } : Jvm.MethodName)) ∈ lw_all := lw_g (lw_at lw_m5 37 rfl) rfl
theorem q1121 : (Jvm.Cond.code ({ cls := "FootOut", name := "overBy", desc := "(I)J" } : Jvm.MethodName) prog_1_method_30_code (3 : Nat) (Option.some Jvm.ClassFile.FieldType.long)) ∈ lw_all := lw_g (lw_at lw_m5 38 rfl) rfl
theorem q1123 : (Jvm.Cond.instanceMethod ({ cls := "FootOut", name := "best", desc := "(I)I" } : Jvm.MethodName)) ∈ lw_all := lw_g (lw_at lw_m5 40 rfl) rfl
theorem q1124 : (Jvm.Cond.selects "FootOut" ({ cls := "FootOut", name := "best", desc := "(I)I" } : Jvm.MethodName) ({ cls := "FootOut", name := "best", desc := "(I)I" } : Jvm.MethodName)) ∈ lw_all := lw_g (lw_at lw_m5 41 rfl) rfl
theorem q1125 : (Jvm.Cond.code ({ cls := "FootOut", name := "best", desc := "(I)I" } : Jvm.MethodName) prog_1_method_32_code (8 : Nat) (Option.some Jvm.ClassFile.FieldType.int)) ∈ lw_all := lw_g (lw_at lw_m5 42 rfl) rfl
theorem q1126 : (Jvm.Cond.methodLink "FootOut" (284 : Nat) ({ cls := "java/lang/Integer", name := "bitCount", desc := "(I)I" } : Jvm.MethodName)) ∈ lw_all := lw_g (lw_at lw_m5 43 rfl) rfl
theorem q1133 : (Jvm.Cond.instanceMethod ({ cls := "FootOut", name := "back", desc := "(I)I" } : Jvm.MethodName)) ∈ lw_all := lw_g (lw_at lw_m5 50 rfl) rfl
theorem q1134 : (Jvm.Cond.selects "FootOut" ({ cls := "FootOut", name := "back", desc := "(I)I" } : Jvm.MethodName) ({ cls := "FootOut", name := "back", desc := "(I)I" } : Jvm.MethodName)) ∈ lw_all := lw_g (lw_at lw_m5 51 rfl) rfl
theorem q1135 : (Jvm.Cond.code ({ cls := "FootOut", name := "back", desc := "(I)I" } : Jvm.MethodName) prog_1_method_33_code (5 : Nat) (Option.some Jvm.ClassFile.FieldType.int)) ∈ lw_all := lw_g (lw_at lw_m5 52 rfl) rfl
theorem q1136 : (Jvm.Cond.constantLong "FootOut" (289 : Nat) (1000 : Int64)) ∈ lw_all := lw_g (lw_at lw_m5 53 rfl) rfl
theorem q1137 : (Jvm.Cond.methodLink "FootOut" (294 : Nat) ({ cls := "FootOut", name := "isAtMost", desc := "(JIJ)Z" } : Jvm.MethodName)) ∈ lw_all := lw_g (lw_at lw_m5 54 rfl) rfl
theorem q1138 : (Jvm.Cond.static ({ cls := "FootOut", name := "isAtMost", desc := "(JIJ)Z" } : Jvm.MethodName)) ∈ lw_all := lw_g (lw_at lw_m5 55 rfl) rfl
theorem q1139 : (Jvm.Cond.code ({ cls := "FootOut", name := "isAtMost", desc := "(JIJ)Z" } : Jvm.MethodName) prog_1_method_34_code (5 : Nat) (Option.some Jvm.ClassFile.FieldType.boolean)) ∈ lw_all := lw_g (lw_at lw_m5 56 rfl) rfl
theorem q1141 : (Jvm.Cond.instanceMethod ({ cls := "FootOut", name := "wise", desc := "(I)I" } : Jvm.MethodName)) ∈ lw_all := lw_g (lw_at lw_m5 58 rfl) rfl
theorem q1142 : (Jvm.Cond.selects "FootOut" ({ cls := "FootOut", name := "wise", desc := "(I)I" } : Jvm.MethodName) ({ cls := "FootOut", name := "wise", desc := "(I)I" } : Jvm.MethodName)) ∈ lw_all := lw_g (lw_at lw_m5 59 rfl) rfl
theorem q1143 : (Jvm.Cond.code ({ cls := "FootOut", name := "wise", desc := "(I)I" } : Jvm.MethodName) prog_1_method_35_code (8 : Nat) (Option.some Jvm.ClassFile.FieldType.int)) ∈ lw_all := lw_g (lw_at lw_m5 60 rfl) rfl
theorem q1145 : (Jvm.Cond.instanceMethod ({ cls := "FootOut", name := "blame", desc := "(II)J" } : Jvm.MethodName)) ∈ lw_all := lw_g (lw_at lw_m5 62 rfl) rfl
theorem q1146 : (Jvm.Cond.selects "FootOut" ({ cls := "FootOut", name := "blame", desc := "(II)J" } : Jvm.MethodName) ({ cls := "FootOut", name := "blame", desc := "(II)J" } : Jvm.MethodName)) ∈ lw_all := lw_g (lw_at lw_m5 63 rfl) rfl
theorem q1147 : (Jvm.Cond.code ({ cls := "FootOut", name := "blame", desc := "(II)J" } : Jvm.MethodName) prog_1_method_36_code (3 : Nat) (Option.some Jvm.ClassFile.FieldType.long)) ∈ lw_all := lw_g (lw_at lw_m5 64 rfl) rfl
theorem q1149 : (Jvm.Cond.instanceMethod ({ cls := "FootOut", name := "mean", desc := "(I)J" } : Jvm.MethodName)) ∈ lw_all := lw_g (lw_at lw_m5 66 rfl) rfl
theorem q1150 : (Jvm.Cond.selects "FootOut" ({ cls := "FootOut", name := "mean", desc := "(I)J" } : Jvm.MethodName) ({ cls := "FootOut", name := "mean", desc := "(I)J" } : Jvm.MethodName)) ∈ lw_all := lw_g (lw_at lw_m5 67 rfl) rfl
theorem q1151 : (Jvm.Cond.code ({ cls := "FootOut", name := "mean", desc := "(I)J" } : Jvm.MethodName) prog_1_method_38_code (2 : Nat) (Option.some Jvm.ClassFile.FieldType.long)) ∈ lw_all := lw_g (lw_at lw_m5 68 rfl) rfl
theorem q1152 : (Jvm.Cond.methodLink "FootOut" (298 : Nat) ({ cls := "FootOut", name := "commonOf", desc := "(JJ)J" } : Jvm.MethodName)) ∈ lw_all := lw_g (lw_at lw_m5 69 rfl) rfl
theorem q1153 : (Jvm.Cond.static ({ cls := "FootOut", name := "commonOf", desc := "(JJ)J" } : Jvm.MethodName)) ∈ lw_all := lw_g (lw_at lw_m5 70 rfl) rfl
theorem q1154 : (Jvm.Cond.code ({ cls := "FootOut", name := "commonOf", desc := "(JJ)J" } : Jvm.MethodName) prog_1_method_37_code (4 : Nat) (Option.some Jvm.ClassFile.FieldType.long)) ∈ lw_all := lw_g (lw_at lw_m5 71 rfl) rfl
theorem q1156 : (Jvm.Cond.instanceMethod ({ cls := "FootOut", name := "repeals", desc := "(I)J" } : Jvm.MethodName)) ∈ lw_all := lw_g (lw_at lw_m5 73 rfl) rfl
theorem q1157 : (Jvm.Cond.selects "FootOut" ({ cls := "FootOut", name := "repeals", desc := "(I)J" } : Jvm.MethodName) ({ cls := "FootOut", name := "repeals", desc := "(I)J" } : Jvm.MethodName)) ∈ lw_all := lw_g (lw_at lw_m5 74 rfl) rfl
theorem q1158 : (Jvm.Cond.code ({ cls := "FootOut", name := "repeals", desc := "(I)J" } : Jvm.MethodName) prog_1_method_39_code (8 : Nat) (Option.some Jvm.ClassFile.FieldType.long)) ∈ lw_all := lw_g (lw_at lw_m5 75 rfl) rfl
theorem q1159 : (Jvm.Cond.classLink "FootOut" (110 : Nat) "java/util/ArrayList") ∈ lw_all := lw_g (lw_at lw_m5 76 rfl) rfl
theorem q1160 : (Jvm.Cond.methodLink "FootOut" (302 : Nat) ({ cls := "java/util/ArrayList", name := "<init>", desc := "(I)V" } : Jvm.MethodName)) ∈ lw_all := lw_g (lw_at lw_m5 77 rfl) rfl
theorem q1161 : (Jvm.Cond.methodLink "FootOut" (304 : Nat) ({ cls := "java/util/ArrayList", name := "add", desc := "(Ljava/lang/Object;)Z" } : Jvm.MethodName)) ∈ lw_all := lw_g (lw_at lw_m5 78 rfl) rfl
theorem q1163 : (Jvm.Cond.instanceMethod ({ cls := "FootOut", name := "absent", desc := "(I)J" } : Jvm.MethodName)) ∈ lw_all := lw_g (lw_at lw_m5 80 rfl) rfl
theorem q1164 : (Jvm.Cond.selects "FootOut" ({ cls := "FootOut", name := "absent", desc := "(I)J" } : Jvm.MethodName) ({ cls := "FootOut", name := "absent", desc := "(I)J" } : Jvm.MethodName)) ∈ lw_all := lw_g (lw_at lw_m5 81 rfl) rfl
theorem q1165 : (Jvm.Cond.code ({ cls := "FootOut", name := "absent", desc := "(I)J" } : Jvm.MethodName) prog_1_method_40_code (5 : Nat) (Option.some Jvm.ClassFile.FieldType.long)) ∈ lw_all := lw_g (lw_at lw_m5 82 rfl) rfl
theorem q1166 : (Jvm.Cond.methodLink "FootOut" (308 : Nat) ({ cls := "FootOut$Scene", name := "copy", desc := "()LFootOut$Scene;" } : Jvm.MethodName)) ∈ lw_all := lw_g (lw_at lw_m5 83 rfl) rfl
theorem q1174 : (Jvm.Cond.methodLink "FootOut" (312 : Nat) ({ cls := "java/util/ArrayList", name := "remove", desc := "(I)Ljava/lang/Object;" } : Jvm.MethodName)) ∈ lw_all := lw_g (lw_at lw_m5 91 rfl) rfl
theorem q1184 : (Jvm.Cond.instanceMethod ({ cls := "FootOut", name := "margin", desc := "(I)I" } : Jvm.MethodName)) ∈ lw_all := lw_g (lw_at lw_m5 101 rfl) rfl
theorem q1185 : (Jvm.Cond.selects "FootOut" ({ cls := "FootOut", name := "margin", desc := "(I)I" } : Jvm.MethodName) ({ cls := "FootOut", name := "margin", desc := "(I)I" } : Jvm.MethodName)) ∈ lw_all := lw_g (lw_at lw_m5 102 rfl) rfl
theorem q1186 : (Jvm.Cond.code ({ cls := "FootOut", name := "margin", desc := "(I)I" } : Jvm.MethodName) prog_1_method_42_code (4 : Nat) (Option.some Jvm.ClassFile.FieldType.int)) ∈ lw_all := lw_g (lw_at lw_m5 103 rfl) rfl
theorem q1187 : (Jvm.Cond.methodLink "FootOut" (319 : Nat) ({ cls := "FootOut", name := "off", desc := "(LFootOut$Walk;)I" } : Jvm.MethodName)) ∈ lw_all := lw_g (lw_at lw_m5 104 rfl) rfl
theorem q1188 : (Jvm.Cond.privateMethod ({ cls := "FootOut", name := "off", desc := "(LFootOut$Walk;)I" } : Jvm.MethodName)) ∈ lw_tbl := lw_at lw_m5 105 rfl
theorem q1189 : (Jvm.Cond.instanceMethod ({ cls := "FootOut", name := "off", desc := "(LFootOut$Walk;)I" } : Jvm.MethodName)) ∈ lw_all := lw_g (lw_at lw_m5 106 rfl) rfl
theorem q1190 : (Jvm.Cond.code ({ cls := "FootOut", name := "off", desc := "(LFootOut$Walk;)I" } : Jvm.MethodName) prog_1_method_41_code (4 : Nat) (Option.some Jvm.ClassFile.FieldType.int)) ∈ lw_all := lw_g (lw_at lw_m5 107 rfl) rfl
theorem q1191 : (Jvm.Cond.methodLink "FootOut" (315 : Nat) ({ cls := "FootOut$Walk", name := "car", desc := "(I)LFootOut$Car;" } : Jvm.MethodName)) ∈ lw_all := lw_g (lw_at lw_m5 108 rfl) rfl
theorem q1192 : (Jvm.Cond.methodLink "FootOut" (322 : Nat) ({ cls := "java/lang/Math", name := "min", desc := "(II)I" } : Jvm.MethodName)) ∈ lw_all := lw_g (lw_at lw_m5 109 rfl) rfl
theorem q1194 : (Jvm.Cond.instanceMethod ({ cls := "FootOut", name := "place", desc := "(ZIIII)I" } : Jvm.MethodName)) ∈ lw_all := lw_g (lw_at lw_m5 111 rfl) rfl
theorem q1195 : (Jvm.Cond.selects "FootOut" ({ cls := "FootOut", name := "place", desc := "(ZIIII)I" } : Jvm.MethodName) ({ cls := "FootOut", name := "place", desc := "(ZIIII)I" } : Jvm.MethodName)) ∈ lw_all := lw_g (lw_at lw_m5 112 rfl) rfl
theorem q1196 : (Jvm.Cond.code ({ cls := "FootOut", name := "place", desc := "(ZIIII)I" } : Jvm.MethodName) prog_1_method_44_code (6 : Nat) (Option.some Jvm.ClassFile.FieldType.int)) ∈ lw_all := lw_g (lw_at lw_m5 113 rfl) rfl
theorem q1197 : (Jvm.Cond.constantLong "FootOut" (331 : Nat) (300 : Int64)) ∈ lw_all := lw_g (lw_at lw_m5 114 rfl) rfl
theorem q1198 : (Jvm.Cond.classLink "FootOut" (333 : Nat) "FootOut$Place") ∈ lw_all := lw_g (lw_at lw_m5 115 rfl) rfl
theorem q1200 : (Jvm.Cond.methodLink "FootOut" (335 : Nat) ({ cls := "FootOut$Place", name := "<init>", desc := "(ZIIII)V" } : Jvm.MethodName)) ∈ lw_all := lw_g (lw_at lw_m5 117 rfl) rfl
theorem q1205 : (Jvm.Cond.fieldLinkNest "FootOut" (346 : Nat) "FootOut$Place" "isPainted" "Z" "FootOut") ∈ lw_tbl := lw_at lw_m5 122 rfl
theorem q1207 : (Jvm.Cond.fieldLinkNest "FootOut" (350 : Nat) "FootOut$Place" "crossing" "[I" "FootOut") ∈ lw_tbl := lw_at lw_m5 124 rfl
theorem q1209 : (Jvm.Cond.fieldLinkNest "FootOut" (353 : Nat) "FootOut$Place" "hurt" "[I" "FootOut") ∈ lw_tbl := lw_at lw_m5 126 rfl
theorem q1211 : (Jvm.Cond.fieldLinkNest "FootOut" (343 : Nat) "FootOut$Place" "behind" "I" "FootOut") ∈ lw_tbl := lw_at lw_m5 128 rfl
theorem q1222 : (Jvm.Cond.instanceMethod ({ cls := "FootOut", name := "behind", desc := "(II)I" } : Jvm.MethodName)) ∈ lw_all := lw_g (lw_at lw_m5 139 rfl) rfl
theorem q1223 : (Jvm.Cond.selects "FootOut" ({ cls := "FootOut", name := "behind", desc := "(II)I" } : Jvm.MethodName) ({ cls := "FootOut", name := "behind", desc := "(II)I" } : Jvm.MethodName)) ∈ lw_all := lw_g (lw_at lw_m5 140 rfl) rfl
theorem q1224 : (Jvm.Cond.code ({ cls := "FootOut", name := "behind", desc := "(II)I" } : Jvm.MethodName) prog_1_method_45_code (4 : Nat) (Option.some Jvm.ClassFile.FieldType.int)) ∈ lw_all := lw_g (lw_at lw_m5 141 rfl) rfl
theorem q1225 : (Jvm.Cond.methodLink "FootOut" (338 : Nat) ({ cls := "FootOut", name := "isPlace", desc := "(I)Z" } : Jvm.MethodName)) ∈ lw_all := lw_g (lw_at lw_m5 142 rfl) rfl
theorem q1226 : (Jvm.Cond.privateMethod ({ cls := "FootOut", name := "isPlace", desc := "(I)Z" } : Jvm.MethodName)) ∈ lw_tbl := lw_at lw_m5 143 rfl
theorem q1227 : (Jvm.Cond.instanceMethod ({ cls := "FootOut", name := "isPlace", desc := "(I)Z" } : Jvm.MethodName)) ∈ lw_all := lw_g (lw_at lw_m5 144 rfl) rfl
theorem q1228 : (Jvm.Cond.code ({ cls := "FootOut", name := "isPlace", desc := "(I)Z" } : Jvm.MethodName) prog_1_method_43_code (2 : Nat) (Option.some Jvm.ClassFile.FieldType.boolean)) ∈ lw_all := lw_g (lw_at lw_m5 145 rfl) rfl
theorem q1229 : (Jvm.Cond.constantLong "FootOut" (341 : Nat) (600 : Int64)) ∈ lw_all := lw_g (lw_at lw_m5 146 rfl) rfl
theorem q1231 : (Jvm.Cond.instanceMethod ({ cls := "FootOut", name := "at", desc := "(II)I" } : Jvm.MethodName)) ∈ lw_all := lw_g (lw_at lw_m5 148 rfl) rfl
theorem q1232 : (Jvm.Cond.selects "FootOut" ({ cls := "FootOut", name := "at", desc := "(II)I" } : Jvm.MethodName) ({ cls := "FootOut", name := "at", desc := "(II)I" } : Jvm.MethodName)) ∈ lw_all := lw_g (lw_at lw_m5 149 rfl) rfl
theorem q1233 : (Jvm.Cond.code ({ cls := "FootOut", name := "at", desc := "(II)I" } : Jvm.MethodName) prog_1_method_46_code (4 : Nat) (Option.some Jvm.ClassFile.FieldType.int)) ∈ lw_all := lw_g (lw_at lw_m5 150 rfl) rfl
theorem q1235 : (Jvm.Cond.instanceMethod ({ cls := "FootOut", name := "rate", desc := "(ZI)I" } : Jvm.MethodName)) ∈ lw_all := lw_g (lw_at lw_m5 152 rfl) rfl
theorem q1236 : (Jvm.Cond.selects "FootOut" ({ cls := "FootOut", name := "rate", desc := "(ZI)I" } : Jvm.MethodName) ({ cls := "FootOut", name := "rate", desc := "(ZI)I" } : Jvm.MethodName)) ∈ lw_all := lw_g (lw_at lw_m5 153 rfl) rfl
theorem q1237 : (Jvm.Cond.code ({ cls := "FootOut", name := "rate", desc := "(ZI)I" } : Jvm.MethodName) prog_1_method_48_code (6 : Nat) (Option.some Jvm.ClassFile.FieldType.int)) ∈ lw_all := lw_g (lw_at lw_m5 154 rfl) rfl
theorem q1238 : (Jvm.Cond.methodLink "FootOut" (359 : Nat) ({ cls := "FootOut$Place", name := "hurt", desc := "()I" } : Jvm.MethodName)) ∈ lw_all := lw_g (lw_at lw_m5 155 rfl) rfl
theorem q1242 : (Jvm.Cond.methodLink "FootOut" (361 : Nat) ({ cls := "FootOut$Place", name := "crossing", desc := "()I" } : Jvm.MethodName)) ∈ lw_all := lw_g (lw_at lw_m5 159 rfl) rfl
theorem q1246 : (Jvm.Cond.methodLink "FootOut" (356 : Nat) ({ cls := "FootOut", name := "common", desc := "(II)I" } : Jvm.MethodName)) ∈ lw_all := lw_g (lw_at lw_m5 163 rfl) rfl
theorem q1247 : (Jvm.Cond.static ({ cls := "FootOut", name := "common", desc := "(II)I" } : Jvm.MethodName)) ∈ lw_all := lw_g (lw_at lw_m5 164 rfl) rfl
theorem q1248 : (Jvm.Cond.code ({ cls := "FootOut", name := "common", desc := "(II)I" } : Jvm.MethodName) prog_1_method_47_code (2 : Nat) (Option.some Jvm.ClassFile.FieldType.int)) ∈ lw_all := lw_g (lw_at lw_m5 165 rfl) rfl
theorem q1250 : (Jvm.Cond.instanceMethod ({ cls := "FootOut", name := "parted", desc := "()I" } : Jvm.MethodName)) ∈ lw_all := lw_g (lw_at lw_m5 167 rfl) rfl
theorem q1251 : (Jvm.Cond.selects "FootOut" ({ cls := "FootOut", name := "parted", desc := "()I" } : Jvm.MethodName) ({ cls := "FootOut", name := "parted", desc := "()I" } : Jvm.MethodName)) ∈ lw_all := lw_g (lw_at lw_m5 168 rfl) rfl
theorem q1252 : (Jvm.Cond.code ({ cls := "FootOut", name := "parted", desc := "()I" } : Jvm.MethodName) prog_1_method_52_code (5 : Nat) (Option.some Jvm.ClassFile.FieldType.int)) ∈ lw_all := lw_g (lw_at lw_m5 169 rfl) rfl
theorem q1253 : (Jvm.Cond.methodLink "FootOut" (374 : Nat) ({ cls := "FootOut", name := "above", desc := "(Z)J" } : Jvm.MethodName)) ∈ lw_all := lw_g (lw_at lw_m5 170 rfl) rfl
theorem q1254 : (Jvm.Cond.privateMethod ({ cls := "FootOut", name := "above", desc := "(Z)J" } : Jvm.MethodName)) ∈ lw_tbl := lw_at lw_m5 171 rfl
theorem q1255 : (Jvm.Cond.instanceMethod ({ cls := "FootOut", name := "above", desc := "(Z)J" } : Jvm.MethodName)) ∈ lw_all := lw_g (lw_at lw_m5 172 rfl) rfl
theorem q1256 : (Jvm.Cond.code ({ cls := "FootOut", name := "above", desc := "(Z)J" } : Jvm.MethodName) prog_1_method_51_code (2 : Nat) (Option.some Jvm.ClassFile.FieldType.long)) ∈ lw_all := lw_g (lw_at lw_m5 173 rfl) rfl
theorem q1257 : (Jvm.Cond.methodLink "FootOut" (363 : Nat) ({ cls := "FootOut", name := "sumOf", desc := "(ZZIZ)J" } : Jvm.MethodName)) ∈ lw_all := lw_g (lw_at lw_m5 174 rfl) rfl
theorem q1258 : (Jvm.Cond.privateMethod ({ cls := "FootOut", name := "sumOf", desc := "(ZZIZ)J" } : Jvm.MethodName)) ∈ lw_tbl := lw_at lw_m5 175 rfl
theorem q1259 : (Jvm.Cond.instanceMethod ({ cls := "FootOut", name := "sumOf", desc := "(ZZIZ)J" } : Jvm.MethodName)) ∈ lw_all := lw_g (lw_at lw_m5 176 rfl) rfl
theorem q1260 : (Jvm.Cond.code ({ cls := "FootOut", name := "sumOf", desc := "(ZZIZ)J" } : Jvm.MethodName) prog_1_method_49_code (8 : Nat) (Option.some Jvm.ClassFile.FieldType.long)) ∈ lw_all := lw_g (lw_at lw_m5 177 rfl) rfl
theorem q1261 : (Jvm.Cond.methodLink "FootOut" (370 : Nat) ({ cls := "FootOut", name := "below", desc := "(ZI)J" } : Jvm.MethodName)) ∈ lw_all := lw_g (lw_at lw_m5 178 rfl) rfl
theorem q1262 : (Jvm.Cond.privateMethod ({ cls := "FootOut", name := "below", desc := "(ZI)J" } : Jvm.MethodName)) ∈ lw_tbl := lw_at lw_m5 179 rfl
theorem q1263 : (Jvm.Cond.instanceMethod ({ cls := "FootOut", name := "below", desc := "(ZI)J" } : Jvm.MethodName)) ∈ lw_all := lw_g (lw_at lw_m5 180 rfl) rfl
theorem q1264 : (Jvm.Cond.code ({ cls := "FootOut", name := "below", desc := "(ZI)J" } : Jvm.MethodName) prog_1_method_50_code (3 : Nat) (Option.some Jvm.ClassFile.FieldType.long)) ∈ lw_all := lw_g (lw_at lw_m5 181 rfl) rfl
theorem q1265 : (Jvm.Cond.methodLink "FootOut" (367 : Nat) ({ cls := "java/lang/Math", name := "max", desc := "(JJ)J" } : Jvm.MethodName)) ∈ lw_all := lw_g (lw_at lw_m5 182 rfl) rfl
theorem q1269 : (Jvm.Cond.instanceMethod ({ cls := "FootOut", name := "worst", desc := "(II)I" } : Jvm.MethodName)) ∈ lw_all := lw_g (lw_at lw_m5 186 rfl) rfl
theorem q1270 : (Jvm.Cond.selects "FootOut" ({ cls := "FootOut", name := "worst", desc := "(II)I" } : Jvm.MethodName) ({ cls := "FootOut", name := "worst", desc := "(II)I" } : Jvm.MethodName)) ∈ lw_all := lw_g (lw_at lw_m5 187 rfl) rfl
theorem q1271 : (Jvm.Cond.code ({ cls := "FootOut", name := "worst", desc := "(II)I" } : Jvm.MethodName) prog_1_method_57_code (5 : Nat) (Option.some Jvm.ClassFile.FieldType.int)) ∈ lw_all := lw_g (lw_at lw_m5 188 rfl) rfl
theorem q1272 : (Jvm.Cond.constant "FootOut" (391 : Nat) (-1000000 : Int32)) ∈ lw_all := lw_g (lw_at lw_m5 189 rfl) rfl
theorem q1273 : (Jvm.Cond.methodLink "FootOut" (392 : Nat) ({ cls := "FootOut", name := "worstOf", desc := "(I)I" } : Jvm.MethodName)) ∈ lw_all := lw_g (lw_at lw_m5 190 rfl) rfl
theorem q1274 : (Jvm.Cond.privateMethod ({ cls := "FootOut", name := "worstOf", desc := "(I)I" } : Jvm.MethodName)) ∈ lw_tbl := lw_at lw_m5 191 rfl
theorem q1275 : (Jvm.Cond.instanceMethod ({ cls := "FootOut", name := "worstOf", desc := "(I)I" } : Jvm.MethodName)) ∈ lw_all := lw_g (lw_at lw_m5 192 rfl) rfl
theorem q1276 : (Jvm.Cond.code ({ cls := "FootOut", name := "worstOf", desc := "(I)I" } : Jvm.MethodName) prog_1_method_53_code (6 : Nat) (Option.some Jvm.ClassFile.FieldType.int)) ∈ lw_all := lw_g (lw_at lw_m5 193 rfl) rfl
theorem q1277 : (Jvm.Cond.methodLink "FootOut" (378 : Nat) ({ cls := "FootOut", name := "has", desc := "(II)Z" } : Jvm.MethodName)) ∈ lw_all := lw_g (lw_at lw_m5 194 rfl) rfl
theorem q1278 : (Jvm.Cond.methodLink "FootOut" (395 : Nat) ({ cls := "FootOut", name := "fallOf", desc := "(I)I" } : Jvm.MethodName)) ∈ lw_all := lw_g (lw_at lw_m5 195 rfl) rfl
theorem q1279 : (Jvm.Cond.privateMethod ({ cls := "FootOut", name := "fallOf", desc := "(I)I" } : Jvm.MethodName)) ∈ lw_tbl := lw_at lw_m5 196 rfl
theorem q1280 : (Jvm.Cond.instanceMethod ({ cls := "FootOut", name := "fallOf", desc := "(I)I" } : Jvm.MethodName)) ∈ lw_all := lw_g (lw_at lw_m5 197 rfl) rfl
theorem q1281 : (Jvm.Cond.code ({ cls := "FootOut", name := "fallOf", desc := "(I)I" } : Jvm.MethodName) prog_1_method_54_code (4 : Nat) (Option.some Jvm.ClassFile.FieldType.int)) ∈ lw_all := lw_g (lw_at lw_m5 198 rfl) rfl
theorem q1282 : (Jvm.Cond.methodLink "FootOut" (382 : Nat) ({ cls := "FootOut$Place", name := "fall", desc := "()I" } : Jvm.MethodName)) ∈ lw_all := lw_g (lw_at lw_m5 199 rfl) rfl
theorem q1287 : (Jvm.Cond.methodLink "FootOut" (398 : Nat) ({ cls := "FootOut", name := "matches", desc := "(I)I" } : Jvm.MethodName)) ∈ lw_all := lw_g (lw_at lw_m5 204 rfl) rfl
theorem q1288 : (Jvm.Cond.privateMethod ({ cls := "FootOut", name := "matches", desc := "(I)I" } : Jvm.MethodName)) ∈ lw_tbl := lw_at lw_m5 205 rfl
theorem q1289 : (Jvm.Cond.instanceMethod ({ cls := "FootOut", name := "matches", desc := "(I)I" } : Jvm.MethodName)) ∈ lw_all := lw_g (lw_at lw_m5 206 rfl) rfl
theorem q1290 : (Jvm.Cond.code ({ cls := "FootOut", name := "matches", desc := "(I)I" } : Jvm.MethodName) prog_1_method_56_code (6 : Nat) (Option.some Jvm.ClassFile.FieldType.int)) ∈ lw_all := lw_g (lw_at lw_m5 207 rfl) rfl
theorem q1291 : (Jvm.Cond.methodLink "FootOut" (388 : Nat) ({ cls := "FootOut", name := "apart", desc := "(II)I" } : Jvm.MethodName)) ∈ lw_all := lw_g (lw_at lw_m5 208 rfl) rfl
theorem q1292 : (Jvm.Cond.privateMethod ({ cls := "FootOut", name := "apart", desc := "(II)I" } : Jvm.MethodName)) ∈ lw_tbl := lw_at lw_m5 209 rfl
theorem q1293 : (Jvm.Cond.instanceMethod ({ cls := "FootOut", name := "apart", desc := "(II)I" } : Jvm.MethodName)) ∈ lw_all := lw_g (lw_at lw_m5 210 rfl) rfl
theorem q1294 : (Jvm.Cond.code ({ cls := "FootOut", name := "apart", desc := "(II)I" } : Jvm.MethodName) prog_1_method_55_code (3 : Nat) (Option.some Jvm.ClassFile.FieldType.int)) ∈ lw_all := lw_g (lw_at lw_m5 211 rfl) rfl
theorem q1295 : (Jvm.Cond.methodLink "FootOut" (385 : Nat) ({ cls := "java/lang/Math", name := "abs", desc := "(I)I" } : Jvm.MethodName)) ∈ lw_all := lw_g (lw_at lw_m5 212 rfl) rfl
theorem q1297 : (Jvm.Cond.instanceMethod ({ cls := "FootOut", name := "ranked", desc := "(I)I" } : Jvm.MethodName)) ∈ lw_all := lw_g (lw_at lw_m5 214 rfl) rfl
theorem q1298 : (Jvm.Cond.selects "FootOut" ({ cls := "FootOut", name := "ranked", desc := "(I)I" } : Jvm.MethodName) ({ cls := "FootOut", name := "ranked", desc := "(I)I" } : Jvm.MethodName)) ∈ lw_all := lw_g (lw_at lw_m5 215 rfl) rfl
theorem q1299 : (Jvm.Cond.code ({ cls := "FootOut", name := "ranked", desc := "(I)I" } : Jvm.MethodName) prog_1_method_59_code (5 : Nat) (Option.some Jvm.ClassFile.FieldType.int)) ∈ lw_all := lw_g (lw_at lw_m5 216 rfl) rfl
theorem q1300 : (Jvm.Cond.methodLink "FootOut" (403 : Nat) ({ cls := "FootOut", name := "isWorse", desc := "(II)Z" } : Jvm.MethodName)) ∈ lw_all := lw_g (lw_at lw_m5 217 rfl) rfl
theorem q1301 : (Jvm.Cond.privateMethod ({ cls := "FootOut", name := "isWorse", desc := "(II)Z" } : Jvm.MethodName)) ∈ lw_tbl := lw_at lw_m5 218 rfl
theorem q1302 : (Jvm.Cond.instanceMethod ({ cls := "FootOut", name := "isWorse", desc := "(II)Z" } : Jvm.MethodName)) ∈ lw_all := lw_g (lw_at lw_m5 219 rfl) rfl
theorem q1303 : (Jvm.Cond.code ({ cls := "FootOut", name := "isWorse", desc := "(II)Z" } : Jvm.MethodName) prog_1_method_58_code (7 : Nat) (Option.some Jvm.ClassFile.FieldType.boolean)) ∈ lw_all := lw_g (lw_at lw_m5 220 rfl) rfl
theorem q1304 : (Jvm.Cond.methodLink "FootOut" (401 : Nat) ({ cls := "java/lang/Math", name := "max", desc := "(II)I" } : Jvm.MethodName)) ∈ lw_all := lw_g (lw_at lw_m5 221 rfl) rfl
theorem q1306 : (Jvm.Cond.instanceMethod ({ cls := "FootOut", name := "measure", desc := "(III)I" } : Jvm.MethodName)) ∈ lw_all := lw_g (lw_at lw_m5 223 rfl) rfl
theorem q1307 : (Jvm.Cond.selects "FootOut" ({ cls := "FootOut", name := "measure", desc := "(III)I" } : Jvm.MethodName) ({ cls := "FootOut", name := "measure", desc := "(III)I" } : Jvm.MethodName)) ∈ lw_all := lw_g (lw_at lw_m5 224 rfl) rfl
theorem q1308 : (Jvm.Cond.code ({ cls := "FootOut", name := "measure", desc := "(III)I" } : Jvm.MethodName) prog_1_method_60_code (4 : Nat) (Option.some Jvm.ClassFile.FieldType.int)) ∈ lw_all := lw_g (lw_at lw_m5 225 rfl) rfl
theorem q1310 : (Jvm.Cond.instanceMethod ({ cls := "FootOut", name := "spent", desc := "(II)I" } : Jvm.MethodName)) ∈ lw_all := lw_g (lw_at lw_m5 227 rfl) rfl
theorem q1311 : (Jvm.Cond.selects "FootOut" ({ cls := "FootOut", name := "spent", desc := "(II)I" } : Jvm.MethodName) ({ cls := "FootOut", name := "spent", desc := "(II)I" } : Jvm.MethodName)) ∈ lw_all := lw_g (lw_at lw_m5 228 rfl) rfl
theorem q1312 : (Jvm.Cond.code ({ cls := "FootOut", name := "spent", desc := "(II)I" } : Jvm.MethodName) prog_1_method_65_code (8 : Nat) (Option.some Jvm.ClassFile.FieldType.int)) ∈ lw_all := lw_g (lw_at lw_m5 229 rfl) rfl
theorem q1313 : (Jvm.Cond.constantLong "FootOut" (426 : Nat) (999 : Int64)) ∈ lw_all := lw_g (lw_at lw_m5 230 rfl) rfl
theorem q1314 : (Jvm.Cond.methodLink "FootOut" (428 : Nat) ({ cls := "FootOut", name := "laysSpent", desc := "(I)V" } : Jvm.MethodName)) ∈ lw_all := lw_g (lw_at lw_m5 231 rfl) rfl
theorem q1315 : (Jvm.Cond.privateMethod ({ cls := "FootOut", name := "laysSpent", desc := "(I)V" } : Jvm.MethodName)) ∈ lw_tbl := lw_at lw_m5 232 rfl
theorem q1316 : (Jvm.Cond.instanceMethod ({ cls := "FootOut", name := "laysSpent", desc := "(I)V" } : Jvm.MethodName)) ∈ lw_all := lw_g (lw_at lw_m5 233 rfl) rfl
theorem q1317 : (Jvm.Cond.code ({ cls := "FootOut", name := "laysSpent", desc := "(I)V" } : Jvm.MethodName) prog_1_method_64_code (8 : Nat) (Option.none : Option Jvm.ClassFile.FieldType)) ∈ lw_all := lw_g (lw_at lw_m5 234 rfl) rfl
theorem q1318 : (Jvm.Cond.methodLink "FootOut" (420 : Nat) ({ cls := "FootOut", name := "spends", desc := "(III)J" } : Jvm.MethodName)) ∈ lw_all := lw_g (lw_at lw_m5 235 rfl) rfl
theorem q1319 : (Jvm.Cond.privateMethod ({ cls := "FootOut", name := "spends", desc := "(III)J" } : Jvm.MethodName)) ∈ lw_tbl := lw_at lw_m5 236 rfl
theorem q1320 : (Jvm.Cond.instanceMethod ({ cls := "FootOut", name := "spends", desc := "(III)J" } : Jvm.MethodName)) ∈ lw_all := lw_g (lw_at lw_m5 237 rfl) rfl
theorem q1321 : (Jvm.Cond.code ({ cls := "FootOut", name := "spends", desc := "(III)J" } : Jvm.MethodName) prog_1_method_63_code (4 : Nat) (Option.some Jvm.ClassFile.FieldType.long)) ∈ lw_all := lw_g (lw_at lw_m5 238 rfl) rfl
theorem q1322 : (Jvm.Cond.constantLong "FootOut" (412 : Nat) (10000 : Int64)) ∈ lw_all := lw_g (lw_at lw_m5 239 rfl) rfl
theorem q1323 : (Jvm.Cond.methodLink "FootOut" (414 : Nat) ({ cls := "FootOut", name := "leftAt", desc := "(II)I" } : Jvm.MethodName)) ∈ lw_all := lw_g (lw_at lw_m6 0 rfl) rfl
theorem q1324 : (Jvm.Cond.privateMethod ({ cls := "FootOut", name := "leftAt", desc := "(II)I" } : Jvm.MethodName)) ∈ lw_tbl := lw_at lw_m6 1 rfl
theorem q1325 : (Jvm.Cond.instanceMethod ({ cls := "FootOut", name := "leftAt", desc := "(II)I" } : Jvm.MethodName)) ∈ lw_all := lw_g (lw_at lw_m6 2 rfl) rfl
theorem q1326 : (Jvm.Cond.code ({ cls := "FootOut", name := "leftAt", desc := "(II)I" } : Jvm.MethodName) prog_1_method_62_code (5 : Nat) (Option.some Jvm.ClassFile.FieldType.int)) ∈ lw_all := lw_g (lw_at lw_m6 3 rfl) rfl
theorem q1327 : (Jvm.Cond.methodLink "FootOut" (417 : Nat) ({ cls := "FootOut", name := "costOf", desc := "(I)I" } : Jvm.MethodName)) ∈ lw_all := lw_g (lw_at lw_m6 4 rfl) rfl
theorem q1328 : (Jvm.Cond.privateMethod ({ cls := "FootOut", name := "costOf", desc := "(I)I" } : Jvm.MethodName)) ∈ lw_tbl := lw_at lw_m6 5 rfl
theorem q1329 : (Jvm.Cond.instanceMethod ({ cls := "FootOut", name := "costOf", desc := "(I)I" } : Jvm.MethodName)) ∈ lw_all := lw_g (lw_at lw_m6 6 rfl) rfl
theorem q1330 : (Jvm.Cond.code ({ cls := "FootOut", name := "costOf", desc := "(I)I" } : Jvm.MethodName) prog_1_method_61_code (4 : Nat) (Option.some Jvm.ClassFile.FieldType.int)) ∈ lw_all := lw_g (lw_at lw_m6 7 rfl) rfl
theorem q1331 : (Jvm.Cond.methodLink "FootOut" (424 : Nat) ({ cls := "java/lang/Math", name := "min", desc := "(JJ)J" } : Jvm.MethodName)) ∈ lw_all := lw_g (lw_at lw_m6 8 rfl) rfl
theorem q1335 : (Jvm.Cond.instanceMethod ({ cls := "FootOut", name := "fine", desc := "(IIII)I" } : Jvm.MethodName)) ∈ lw_all := lw_g (lw_at lw_m6 12 rfl) rfl
theorem q1336 : (Jvm.Cond.selects "FootOut" ({ cls := "FootOut", name := "fine", desc := "(IIII)I" } : Jvm.MethodName) ({ cls := "FootOut", name := "fine", desc := "(IIII)I" } : Jvm.MethodName)) ∈ lw_all := lw_g (lw_at lw_m6 13 rfl) rfl
theorem q1337 : (Jvm.Cond.code ({ cls := "FootOut", name := "fine", desc := "(IIII)I" } : Jvm.MethodName) prog_1_method_66_code (7 : Nat) (Option.some Jvm.ClassFile.FieldType.int)) ∈ lw_all := lw_g (lw_at lw_m6 14 rfl) rfl
theorem q1339 : (Jvm.Cond.instanceMethod ({ cls := "FootOut", name := "until", desc := "(IIII)I" } : Jvm.MethodName)) ∈ lw_all := lw_g (lw_at lw_m6 16 rfl) rfl
theorem q1340 : (Jvm.Cond.selects "FootOut" ({ cls := "FootOut", name := "until", desc := "(IIII)I" } : Jvm.MethodName) ({ cls := "FootOut", name := "until", desc := "(IIII)I" } : Jvm.MethodName)) ∈ lw_all := lw_g (lw_at lw_m6 17 rfl) rfl
theorem q1341 : (Jvm.Cond.code ({ cls := "FootOut", name := "until", desc := "(IIII)I" } : Jvm.MethodName) prog_1_method_67_code (7 : Nat) (Option.some Jvm.ClassFile.FieldType.int)) ∈ lw_all := lw_g (lw_at lw_m6 18 rfl) rfl
theorem q1343 : (Jvm.Cond.instanceMethod ({ cls := "FootOut", name := "lot", desc := "(II)I" } : Jvm.MethodName)) ∈ lw_all := lw_g (lw_at lw_m6 20 rfl) rfl
theorem q1344 : (Jvm.Cond.selects "FootOut" ({ cls := "FootOut", name := "lot", desc := "(II)I" } : Jvm.MethodName) ({ cls := "FootOut", name := "lot", desc := "(II)I" } : Jvm.MethodName)) ∈ lw_all := lw_g (lw_at lw_m6 21 rfl) rfl
theorem q1345 : (Jvm.Cond.code ({ cls := "FootOut", name := "lot", desc := "(II)I" } : Jvm.MethodName) prog_1_method_69_code (4 : Nat) (Option.some Jvm.ClassFile.FieldType.int)) ∈ lw_all := lw_g (lw_at lw_m6 22 rfl) rfl
theorem q1346 : (Jvm.Cond.methodLink "FootOut" (433 : Nat) ({ cls := "FootOut", name := "spread", desc := "(I)J" } : Jvm.MethodName)) ∈ lw_all := lw_g (lw_at lw_m6 23 rfl) rfl
theorem q1347 : (Jvm.Cond.static ({ cls := "FootOut", name := "spread", desc := "(I)J" } : Jvm.MethodName)) ∈ lw_all := lw_g (lw_at lw_m6 24 rfl) rfl
theorem q1348 : (Jvm.Cond.code ({ cls := "FootOut", name := "spread", desc := "(I)J" } : Jvm.MethodName) prog_1_method_68_code (1 : Nat) (Option.some Jvm.ClassFile.FieldType.long)) ∈ lw_all := lw_g (lw_at lw_m6 25 rfl) rfl
theorem q1349 : (Jvm.Cond.constantLong "FootOut" (431 : Nat) (4 : Int64)) ∈ lw_all := lw_g (lw_at lw_m6 26 rfl) rfl
theorem q1351 : (Jvm.Cond.instanceMethod ({ cls := "FootOut", name := "shown", desc := "(IIII)I" } : Jvm.MethodName)) ∈ lw_all := lw_g (lw_at lw_m6 28 rfl) rfl
theorem q1352 : (Jvm.Cond.selects "FootOut" ({ cls := "FootOut", name := "shown", desc := "(IIII)I" } : Jvm.MethodName) ({ cls := "FootOut", name := "shown", desc := "(IIII)I" } : Jvm.MethodName)) ∈ lw_all := lw_g (lw_at lw_m6 29 rfl) rfl
theorem q1353 : (Jvm.Cond.code ({ cls := "FootOut", name := "shown", desc := "(IIII)I" } : Jvm.MethodName) prog_1_method_71_code (9 : Nat) (Option.some Jvm.ClassFile.FieldType.int)) ∈ lw_all := lw_g (lw_at lw_m6 30 rfl) rfl
theorem q1354 : (Jvm.Cond.methodLink "FootOut" (436 : Nat) ({ cls := "FootOut", name := "cube", desc := "(J)J" } : Jvm.MethodName)) ∈ lw_all := lw_g (lw_at lw_m6 31 rfl) rfl
theorem q1355 : (Jvm.Cond.static ({ cls := "FootOut", name := "cube", desc := "(J)J" } : Jvm.MethodName)) ∈ lw_all := lw_g (lw_at lw_m6 32 rfl) rfl
theorem q1356 : (Jvm.Cond.code ({ cls := "FootOut", name := "cube", desc := "(J)J" } : Jvm.MethodName) prog_1_method_70_code (2 : Nat) (Option.some Jvm.ClassFile.FieldType.long)) ∈ lw_all := lw_g (lw_at lw_m6 33 rfl) rfl
theorem q1358 : (Jvm.Cond.instanceMethod ({ cls := "FootOut", name := "clumps", desc := "(IIII)I" } : Jvm.MethodName)) ∈ lw_all := lw_g (lw_at lw_m6 35 rfl) rfl
theorem q1359 : (Jvm.Cond.selects "FootOut" ({ cls := "FootOut", name := "clumps", desc := "(IIII)I" } : Jvm.MethodName) ({ cls := "FootOut", name := "clumps", desc := "(IIII)I" } : Jvm.MethodName)) ∈ lw_all := lw_g (lw_at lw_m6 36 rfl) rfl
theorem q1360 : (Jvm.Cond.code ({ cls := "FootOut", name := "clumps", desc := "(IIII)I" } : Jvm.MethodName) prog_1_method_72_code (12 : Nat) (Option.some Jvm.ClassFile.FieldType.int)) ∈ lw_all := lw_g (lw_at lw_m6 37 rfl) rfl
theorem q1361 : (Jvm.Cond.methodLink "FootOut" (440 : Nat) ({ cls := "FootOut", name := "isRow", desc := "(I)Z" } : Jvm.MethodName)) ∈ lw_all := lw_g (lw_at lw_m6 38 rfl) rfl
theorem q1362 : (Jvm.Cond.static ({ cls := "FootOut", name := "isRow", desc := "(I)Z" } : Jvm.MethodName)) ∈ lw_all := lw_g (lw_at lw_m6 39 rfl) rfl
theorem q1363 : (Jvm.Cond.code ({ cls := "FootOut", name := "isRow", desc := "(I)Z" } : Jvm.MethodName) prog_1_method_87_code (1 : Nat) (Option.some Jvm.ClassFile.FieldType.boolean)) ∈ lw_all := lw_g (lw_at lw_m6 40 rfl) rfl
theorem q1364 : (Jvm.Cond.constantLong "FootOut" (443 : Nat) (2 : Int64)) ∈ lw_all := lw_g (lw_at lw_m6 41 rfl) rfl
theorem q1365 : (Jvm.Cond.methodLink "FootOut" (449 : Nat) ({ cls := "FootOut$Numbers", name := "many", desc := "()I" } : Jvm.MethodName)) ∈ lw_all := lw_g (lw_at lw_m6 42 rfl) rfl
theorem q1373 : (Jvm.Cond.methodLink "FootOut" (450 : Nat) ({ cls := "FootOut$Numbers", name := "number", desc := "(I)J" } : Jvm.MethodName)) ∈ lw_all := lw_g (lw_at lw_m6 50 rfl) rfl
theorem q1377 : (Jvm.Cond.constantLong "FootOut" (453 : Nat) (9999 : Int64)) ∈ lw_all := lw_g (lw_at lw_m6 54 rfl) rfl
theorem q1379 : (Jvm.Cond.instanceMethod ({ cls := "FootOut", name := "lamp", desc := "(III)I" } : Jvm.MethodName)) ∈ lw_all := lw_g (lw_at lw_m6 56 rfl) rfl
theorem q1380 : (Jvm.Cond.selects "FootOut" ({ cls := "FootOut", name := "lamp", desc := "(III)I" } : Jvm.MethodName) ({ cls := "FootOut", name := "lamp", desc := "(III)I" } : Jvm.MethodName)) ∈ lw_all := lw_g (lw_at lw_m6 57 rfl) rfl
theorem q1381 : (Jvm.Cond.code ({ cls := "FootOut", name := "lamp", desc := "(III)I" } : Jvm.MethodName) prog_1_method_74_code (8 : Nat) (Option.some Jvm.ClassFile.FieldType.int)) ∈ lw_all := lw_g (lw_at lw_m6 58 rfl) rfl
theorem q1382 : (Jvm.Cond.methodLink "FootOut" (455 : Nat) ({ cls := "FootOut", name := "waste", desc := "(IIII)J" } : Jvm.MethodName)) ∈ lw_all := lw_g (lw_at lw_m6 59 rfl) rfl
theorem q1383 : (Jvm.Cond.static ({ cls := "FootOut", name := "waste", desc := "(IIII)J" } : Jvm.MethodName)) ∈ lw_all := lw_g (lw_at lw_m6 60 rfl) rfl
theorem q1384 : (Jvm.Cond.code ({ cls := "FootOut", name := "waste", desc := "(IIII)J" } : Jvm.MethodName) prog_1_method_73_code (4 : Nat) (Option.some Jvm.ClassFile.FieldType.long)) ∈ lw_all := lw_g (lw_at lw_m6 61 rfl) rfl
theorem q1386 : (Jvm.Cond.instanceMethod ({ cls := "FootOut", name := "pay", desc := "(IIII)I" } : Jvm.MethodName)) ∈ lw_all := lw_g (lw_at lw_m6 63 rfl) rfl
theorem q1387 : (Jvm.Cond.selects "FootOut" ({ cls := "FootOut", name := "pay", desc := "(IIII)I" } : Jvm.MethodName) ({ cls := "FootOut", name := "pay", desc := "(IIII)I" } : Jvm.MethodName)) ∈ lw_all := lw_g (lw_at lw_m6 64 rfl) rfl
theorem q1388 : (Jvm.Cond.code ({ cls := "FootOut", name := "pay", desc := "(IIII)I" } : Jvm.MethodName) prog_1_method_76_code (6 : Nat) (Option.some Jvm.ClassFile.FieldType.int)) ∈ lw_all := lw_g (lw_at lw_m6 65 rfl) rfl
theorem q1389 : (Jvm.Cond.constantLong "FootOut" (459 : Nat) (-99 : Int64)) ∈ lw_all := lw_g (lw_at lw_m6 66 rfl) rfl
theorem q1390 : (Jvm.Cond.methodLink "FootOut" (464 : Nat) ({ cls := "FootOut", name := "payAt", desc := "(III)I" } : Jvm.MethodName)) ∈ lw_all := lw_g (lw_at lw_m6 67 rfl) rfl
theorem q1391 : (Jvm.Cond.static ({ cls := "FootOut", name := "payAt", desc := "(III)I" } : Jvm.MethodName)) ∈ lw_all := lw_g (lw_at lw_m6 68 rfl) rfl
theorem q1392 : (Jvm.Cond.code ({ cls := "FootOut", name := "payAt", desc := "(III)I" } : Jvm.MethodName) prog_1_method_75_code (3 : Nat) (Option.some Jvm.ClassFile.FieldType.int)) ∈ lw_all := lw_g (lw_at lw_m6 69 rfl) rfl
theorem q1394 : (Jvm.Cond.instanceMethod ({ cls := "FootOut", name := "rests", desc := "(III)I" } : Jvm.MethodName)) ∈ lw_all := lw_g (lw_at lw_m6 71 rfl) rfl
theorem q1395 : (Jvm.Cond.selects "FootOut" ({ cls := "FootOut", name := "rests", desc := "(III)I" } : Jvm.MethodName) ({ cls := "FootOut", name := "rests", desc := "(III)I" } : Jvm.MethodName)) ∈ lw_all := lw_g (lw_at lw_m6 72 rfl) rfl
theorem q1396 : (Jvm.Cond.code ({ cls := "FootOut", name := "rests", desc := "(III)I" } : Jvm.MethodName) prog_1_method_78_code (8 : Nat) (Option.some Jvm.ClassFile.FieldType.int)) ∈ lw_all := lw_g (lw_at lw_m6 73 rfl) rfl
theorem q1397 : (Jvm.Cond.methodLink "FootOut" (468 : Nat) ({ cls := "FootOut", name := "isContent", desc := "(IIII)Z" } : Jvm.MethodName)) ∈ lw_all := lw_g (lw_at lw_m6 74 rfl) rfl
theorem q1398 : (Jvm.Cond.privateMethod ({ cls := "FootOut", name := "isContent", desc := "(IIII)Z" } : Jvm.MethodName)) ∈ lw_tbl := lw_at lw_m6 75 rfl
theorem q1399 : (Jvm.Cond.instanceMethod ({ cls := "FootOut", name := "isContent", desc := "(IIII)Z" } : Jvm.MethodName)) ∈ lw_all := lw_g (lw_at lw_m6 76 rfl) rfl
theorem q1400 : (Jvm.Cond.code ({ cls := "FootOut", name := "isContent", desc := "(IIII)Z" } : Jvm.MethodName) prog_1_method_77_code (7 : Nat) (Option.some Jvm.ClassFile.FieldType.boolean)) ∈ lw_all := lw_g (lw_at lw_m6 77 rfl) rfl
theorem q1402 : (Jvm.Cond.instanceMethod ({ cls := "FootOut", name := "thanks", desc := "(IIIII)I" } : Jvm.MethodName)) ∈ lw_all := lw_g (lw_at lw_m6 79 rfl) rfl
theorem q1403 : (Jvm.Cond.selects "FootOut" ({ cls := "FootOut", name := "thanks", desc := "(IIIII)I" } : Jvm.MethodName) ({ cls := "FootOut", name := "thanks", desc := "(IIIII)I" } : Jvm.MethodName)) ∈ lw_all := lw_g (lw_at lw_m6 80 rfl) rfl
theorem q1404 : (Jvm.Cond.code ({ cls := "FootOut", name := "thanks", desc := "(IIIII)I" } : Jvm.MethodName) prog_1_method_79_code (9 : Nat) (Option.some Jvm.ClassFile.FieldType.int)) ∈ lw_all := lw_g (lw_at lw_m6 81 rfl) rfl
theorem q1405 : (Jvm.Cond.constantLong "FootOut" (472 : Nat) (1000000 : Int64)) ∈ lw_all := lw_g (lw_at lw_m6 82 rfl) rfl
theorem q1406 : (Jvm.Cond.constantLong "FootOut" (474 : Nat) (100000000 : Int64)) ∈ lw_all := lw_g (lw_at lw_m6 83 rfl) rfl
theorem q1408 : (Jvm.Cond.instanceMethod ({ cls := "FootOut", name := "filled", desc := "(II)I" } : Jvm.MethodName)) ∈ lw_all := lw_g (lw_at lw_m6 85 rfl) rfl
theorem q1409 : (Jvm.Cond.selects "FootOut" ({ cls := "FootOut", name := "filled", desc := "(II)I" } : Jvm.MethodName) ({ cls := "FootOut", name := "filled", desc := "(II)I" } : Jvm.MethodName)) ∈ lw_all := lw_g (lw_at lw_m6 86 rfl) rfl
theorem q1410 : (Jvm.Cond.code ({ cls := "FootOut", name := "filled", desc := "(II)I" } : Jvm.MethodName) prog_1_method_83_code (4 : Nat) (Option.some Jvm.ClassFile.FieldType.int)) ∈ lw_all := lw_g (lw_at lw_m6 87 rfl) rfl
theorem q1411 : (Jvm.Cond.methodLink "FootOut" (479 : Nat) ({ cls := "FootOut", name := "countsFault", desc := "(I)I" } : Jvm.MethodName)) ∈ lw_all := lw_g (lw_at lw_m6 88 rfl) rfl
theorem q1412 : (Jvm.Cond.privateMethod ({ cls := "FootOut", name := "countsFault", desc := "(I)I" } : Jvm.MethodName)) ∈ lw_tbl := lw_at lw_m6 89 rfl
theorem q1413 : (Jvm.Cond.instanceMethod ({ cls := "FootOut", name := "countsFault", desc := "(I)I" } : Jvm.MethodName)) ∈ lw_all := lw_g (lw_at lw_m6 90 rfl) rfl
theorem q1414 : (Jvm.Cond.code ({ cls := "FootOut", name := "countsFault", desc := "(I)I" } : Jvm.MethodName) prog_1_method_80_code (3 : Nat) (Option.some Jvm.ClassFile.FieldType.int)) ∈ lw_all := lw_g (lw_at lw_m6 91 rfl) rfl
theorem q1415 : (Jvm.Cond.methodLink "FootOut" (482 : Nat) ({ cls := "FootOut", name := "filledAt", desc := "(II)I" } : Jvm.MethodName)) ∈ lw_all := lw_g (lw_at lw_m6 92 rfl) rfl
theorem q1416 : (Jvm.Cond.privateMethod ({ cls := "FootOut", name := "filledAt", desc := "(II)I" } : Jvm.MethodName)) ∈ lw_tbl := lw_at lw_m6 93 rfl
theorem q1417 : (Jvm.Cond.instanceMethod ({ cls := "FootOut", name := "filledAt", desc := "(II)I" } : Jvm.MethodName)) ∈ lw_all := lw_g (lw_at lw_m6 94 rfl) rfl
theorem q1418 : (Jvm.Cond.code ({ cls := "FootOut", name := "filledAt", desc := "(II)I" } : Jvm.MethodName) prog_1_method_82_code (5 : Nat) (Option.some Jvm.ClassFile.FieldType.int)) ∈ lw_all := lw_g (lw_at lw_m6 95 rfl) rfl
theorem q1419 : (Jvm.Cond.methodLink "FootOut" (476 : Nat) ({ cls := "FootOut", name := "nearest", desc := "(III)I" } : Jvm.MethodName)) ∈ lw_all := lw_g (lw_at lw_m6 96 rfl) rfl
theorem q1420 : (Jvm.Cond.privateMethod ({ cls := "FootOut", name := "nearest", desc := "(III)I" } : Jvm.MethodName)) ∈ lw_tbl := lw_at lw_m6 97 rfl
theorem q1421 : (Jvm.Cond.instanceMethod ({ cls := "FootOut", name := "nearest", desc := "(III)I" } : Jvm.MethodName)) ∈ lw_all := lw_g (lw_at lw_m6 98 rfl) rfl
theorem q1422 : (Jvm.Cond.code ({ cls := "FootOut", name := "nearest", desc := "(III)I" } : Jvm.MethodName) prog_1_method_81_code (5 : Nat) (Option.some Jvm.ClassFile.FieldType.int)) ∈ lw_all := lw_g (lw_at lw_m6 99 rfl) rfl
theorem q1424 : (Jvm.Cond.instanceMethod ({ cls := "FootOut", name := "slip", desc := "(II)I" } : Jvm.MethodName)) ∈ lw_all := lw_g (lw_at lw_m6 101 rfl) rfl
theorem q1425 : (Jvm.Cond.selects "FootOut" ({ cls := "FootOut", name := "slip", desc := "(II)I" } : Jvm.MethodName) ({ cls := "FootOut", name := "slip", desc := "(II)I" } : Jvm.MethodName)) ∈ lw_all := lw_g (lw_at lw_m6 102 rfl) rfl
theorem q1426 : (Jvm.Cond.code ({ cls := "FootOut", name := "slip", desc := "(II)I" } : Jvm.MethodName) prog_1_method_86_code (9 : Nat) (Option.some Jvm.ClassFile.FieldType.int)) ∈ lw_all := lw_g (lw_at lw_m6 103 rfl) rfl
theorem q1427 : (Jvm.Cond.methodLink "FootOut" (492 : Nat) ({ cls := "FootOut", name := "isCounted", desc := "(I)Z" } : Jvm.MethodName)) ∈ lw_all := lw_g (lw_at lw_m6 104 rfl) rfl
theorem q1428 : (Jvm.Cond.privateMethod ({ cls := "FootOut", name := "isCounted", desc := "(I)Z" } : Jvm.MethodName)) ∈ lw_tbl := lw_at lw_m6 105 rfl
theorem q1429 : (Jvm.Cond.instanceMethod ({ cls := "FootOut", name := "isCounted", desc := "(I)Z" } : Jvm.MethodName)) ∈ lw_all := lw_g (lw_at lw_m6 106 rfl) rfl
theorem q1430 : (Jvm.Cond.code ({ cls := "FootOut", name := "isCounted", desc := "(I)Z" } : Jvm.MethodName) prog_1_method_84_code (2 : Nat) (Option.some Jvm.ClassFile.FieldType.boolean)) ∈ lw_all := lw_g (lw_at lw_m6 107 rfl) rfl
theorem q1431 : (Jvm.Cond.methodLink "FootOut" (495 : Nat) ({ cls := "FootOut", name := "slips", desc := "(III)V" } : Jvm.MethodName)) ∈ lw_all := lw_g (lw_at lw_m6 108 rfl) rfl
theorem q1432 : (Jvm.Cond.privateMethod ({ cls := "FootOut", name := "slips", desc := "(III)V" } : Jvm.MethodName)) ∈ lw_tbl := lw_at lw_m6 109 rfl
theorem q1433 : (Jvm.Cond.instanceMethod ({ cls := "FootOut", name := "slips", desc := "(III)V" } : Jvm.MethodName)) ∈ lw_all := lw_g (lw_at lw_m6 110 rfl) rfl
theorem q1434 : (Jvm.Cond.code ({ cls := "FootOut", name := "slips", desc := "(III)V" } : Jvm.MethodName) prog_1_method_85_code (5 : Nat) (Option.none : Option Jvm.ClassFile.FieldType)) ∈ lw_all := lw_g (lw_at lw_m6 111 rfl) rfl
theorem q1436 : (Jvm.Cond.instanceMethod ({ cls := "FootOut", name := "numbers", desc := "(III)I" } : Jvm.MethodName)) ∈ lw_all := lw_g (lw_at lw_m6 113 rfl) rfl
theorem q1437 : (Jvm.Cond.selects "FootOut" ({ cls := "FootOut", name := "numbers", desc := "(III)I" } : Jvm.MethodName) ({ cls := "FootOut", name := "numbers", desc := "(III)I" } : Jvm.MethodName)) ∈ lw_all := lw_g (lw_at lw_m6 114 rfl) rfl
theorem q1438 : (Jvm.Cond.code ({ cls := "FootOut", name := "numbers", desc := "(III)I" } : Jvm.MethodName) prog_1_method_88_code (4 : Nat) (Option.some Jvm.ClassFile.FieldType.int)) ∈ lw_all := lw_g (lw_at lw_m6 115 rfl) rfl
theorem q1439 : (Jvm.Cond.methodLink "FootOut" (499 : Nat) ({ cls := "FootOut$Numbers", name := "begins", desc := "(II)Z" } : Jvm.MethodName)) ∈ lw_all := lw_g (lw_at lw_m6 116 rfl) rfl
theorem q1528 : (Jvm.Cond.instanceMethod ({ cls := "FootOut", name := "write", desc := "(IIJ)J" } : Jvm.MethodName)) ∈ lw_all := lw_g (lw_at lw_m6 205 rfl) rfl
theorem q1529 : (Jvm.Cond.selects "FootOut" ({ cls := "FootOut", name := "write", desc := "(IIJ)J" } : Jvm.MethodName) ({ cls := "FootOut", name := "write", desc := "(IIJ)J" } : Jvm.MethodName)) ∈ lw_all := lw_g (lw_at lw_m6 206 rfl) rfl
theorem q1530 : (Jvm.Cond.codeWith ({ cls := "FootOut", name := "write", desc := "(IIJ)J" } : Jvm.MethodName) prog_1_method_89_code (6 : Nat) (Option.some Jvm.ClassFile.FieldType.long) [((15 : Nat), (36 : Nat), (37 : Nat), (505 : Nat)), ((15 : Nat), (36 : Nat), (47 : Nat), (507 : Nat))]) ∈ lw_all := lw_g (lw_at lw_m6 207 rfl) rfl
theorem q1531 : (Jvm.Cond.classLink "FootOut" (505 : Nat) "java/lang/NullPointerException") ∈ lw_all := lw_g (lw_at lw_m6 208 rfl) rfl
theorem q1556 : (Jvm.Cond.classLink "FootOut" (507 : Nat) "java/lang/ArrayIndexOutOfBoundsException") ∈ lw_all := lw_g (lw_at lw_m6 233 rfl) rfl
theorem q1575 : (Jvm.Cond.methodLink "FootOut" (501 : Nat) ({ cls := "FootOut$Numbers", name := "puts", desc := "(IJ)V" } : Jvm.MethodName)) ∈ lw_all := lw_g (lw_at lw_m7 12 rfl) rfl
theorem q1580 : (Jvm.Cond.instanceMethod ({ cls := "FootOut", name := "image", desc := "(I)I" } : Jvm.MethodName)) ∈ lw_all := lw_g (lw_at lw_m7 17 rfl) rfl
theorem q1581 : (Jvm.Cond.selects "FootOut" ({ cls := "FootOut", name := "image", desc := "(I)I" } : Jvm.MethodName) ({ cls := "FootOut", name := "image", desc := "(I)I" } : Jvm.MethodName)) ∈ lw_all := lw_g (lw_at lw_m7 18 rfl) rfl
theorem q1582 : (Jvm.Cond.code ({ cls := "FootOut", name := "image", desc := "(I)I" } : Jvm.MethodName) prog_1_method_90_code (2 : Nat) (Option.some Jvm.ClassFile.FieldType.int)) ∈ lw_all := lw_g (lw_at lw_m7 19 rfl) rfl
theorem q1583 : (Jvm.Cond.methodLink "FootOut" (509 : Nat) ({ cls := "FootOut$State", name := "copy", desc := "()LFootOut$State;" } : Jvm.MethodName)) ∈ lw_all := lw_g (lw_at lw_m7 20 rfl) rfl
theorem q1601 : (Jvm.Cond.instanceMethod ({ cls := "FootOut", name := "restore", desc := "(I)I" } : Jvm.MethodName)) ∈ lw_all := lw_g (lw_at lw_m7 38 rfl) rfl
theorem q1602 : (Jvm.Cond.selects "FootOut" ({ cls := "FootOut", name := "restore", desc := "(I)I" } : Jvm.MethodName) ({ cls := "FootOut", name := "restore", desc := "(I)I" } : Jvm.MethodName)) ∈ lw_all := lw_g (lw_at lw_m7 39 rfl) rfl
theorem q1603 : (Jvm.Cond.code ({ cls := "FootOut", name := "restore", desc := "(I)I" } : Jvm.MethodName) prog_1_method_91_code (2 : Nat) (Option.some Jvm.ClassFile.FieldType.int)) ∈ lw_all := lw_g (lw_at lw_m7 40 rfl) rfl
theorem q1605 : (Jvm.Cond.instanceMethod ({ cls := "FootOut", name := "status", desc := "(I)I" } : Jvm.MethodName)) ∈ lw_all := lw_g (lw_at lw_m7 42 rfl) rfl
theorem q1606 : (Jvm.Cond.selects "FootOut" ({ cls := "FootOut", name := "status", desc := "(I)I" } : Jvm.MethodName) ({ cls := "FootOut", name := "status", desc := "(I)I" } : Jvm.MethodName)) ∈ lw_all := lw_g (lw_at lw_m7 43 rfl) rfl
theorem q1607 : (Jvm.Cond.code ({ cls := "FootOut", name := "status", desc := "(I)I" } : Jvm.MethodName) prog_1_method_92_code (2 : Nat) (Option.some Jvm.ClassFile.FieldType.int)) ∈ lw_all := lw_g (lw_at lw_m7 44 rfl) rfl
theorem q1609 : (Jvm.Cond.instanceMethod ({ cls := "FootOut", name := "count", desc := "(I)I" } : Jvm.MethodName)) ∈ lw_all := lw_g (lw_at lw_m7 46 rfl) rfl
theorem q1610 : (Jvm.Cond.selects "FootOut" ({ cls := "FootOut", name := "count", desc := "(I)I" } : Jvm.MethodName) ({ cls := "FootOut", name := "count", desc := "(I)I" } : Jvm.MethodName)) ∈ lw_all := lw_g (lw_at lw_m7 47 rfl) rfl
theorem q1611 : (Jvm.Cond.code ({ cls := "FootOut", name := "count", desc := "(I)I" } : Jvm.MethodName) prog_1_method_93_code (2 : Nat) (Option.some Jvm.ClassFile.FieldType.int)) ∈ lw_all := lw_g (lw_at lw_m7 48 rfl) rfl
theorem q2209 : (Jvm.Cond.castable "FootOut" "java/lang/Object") ∈ lw_tbl := lw_at lw_m9 166 rfl
theorem in_X0 : ∀ w ∈ wsX00, w ∈ lw_all := lw_in wsX00 [393, 395, 397, 399, 401, 403, 405, 407, 409, 411, 413, 415, 417, 419, 421, 423, 425, 427] (by decide +kernel) (by decide +kernel)
