/-! FootOutModel -/
set_option maxRecDepth 100000
def RX5 : String := "FootOutModel"
def TX5 : u_T := fun k => match k with
  | 0 => ("FootOutModel", "thrown", "I", false)
  | 1 => ("FootOutModel", "refused", "[I", true)
  | 2 => ("FootOutModel", "all", "[I", true)
  | 3 => ("FootOutModel", "hasImage", "[Z", true)
  | 4 => ("FootOutModel", "tape", "[I", true)
  | 5 => ("FootOutModel", "fresh", "[I", true)
  | 6 => ("FootOutModel", "taped", "I", false)
  | 7 => ("FootOutModel", "at", "I", false)
  | 8 => ("FootOutModel", "behind", "I", false)
  | 9 => ("FootOutModel", "size", "I", false)
  | 10 => ("FootOutModel", "kind", "I", false)
  | 11 => ("FootOutModel", "number", "I", false)
  | 12 => ("FootOutModel", "wrong", "I", false)
  | 13 => ("FootOutModel", "wrongAt", "I", false)
  | 14 => ("FootOutModel", "depth", "I", false)
  | 15 => ("FootOutModel", "codes", "I", false)
  | 16 => ("FootOutModel", "faultKind", "I", false)
  | 17 => ("FootOutModel", "faultPlace", "I", false)
  | 18 => ("FootOutModel", "now", "[I", true)
  | 19 => ("FootOutModel", "kept", "[I", true)
  | 20 => ("FootOutModel", "pile", "[Z", true)
  | 21 => ("FootOutModel", "withoutLine", "I", false)
  | 22 => ("FootOutModel", "withoutCar", "I", false)
  | 23 => ("FootOutModel", "chanceOf", "I", false)
  | 24 => ("FootOutModel", "went", "[Z", true)
  | 25 => ("FootOutModel", "heldNow", "[Z", true)
  | 26 => ("FootOutModel", "knocks", "I", false)
  | 27 => ("FootOutModel", "parts", "[J", true)
  | 28 => ("FootOutModel", "partsBy", "[J", true)
  | 29 => ("FootOutModel", "partsStop", "[J", true)
  | 30 => ("FootOutModel", "leastLeft", "[I", true)
  | 31 => ("FootOutModel", "leastCost", "[I", true)
  | 32 => ("FootOutModel", "goesAt", "[I", true)
  | 33 => ("FootOutModel", "rowSort", "[I", true)
  | 34 => ("FootOutModel", "rowMany", "[I", true)
  | _ => ("FootOutModel", "numbers", "[J", true)
def tyX5 : Nat → FieldType := fun k => match k with
  | 0 => .int
  | 1 => .array .int
  | 2 => .array .int
  | 3 => .array .boolean
  | 4 => .array .int
  | 5 => .array .int
  | 6 => .int
  | 7 => .int
  | 8 => .int
  | 9 => .int
  | 10 => .int
  | 11 => .int
  | 12 => .int
  | 13 => .int
  | 14 => .int
  | 15 => .int
  | 16 => .int
  | 17 => .int
  | 18 => .array .int
  | 19 => .array .int
  | 20 => .array .boolean
  | 21 => .int
  | 22 => .int
  | 23 => .int
  | 24 => .array .boolean
  | 25 => .array .boolean
  | 26 => .int
  | 27 => .array .long
  | 28 => .array .long
  | 29 => .array .long
  | 30 => .array .int
  | 31 => .array .int
  | 32 => .array .int
  | 33 => .array .int
  | 34 => .array .int
  | _ => .array .long
abbrev wsX50 : List Cond := u_ws RX5 TX5 36
set_option maxRecDepth 100000 in
theorem nmX5 : ∀ a, a < 36 → ∀ b, b < 36 → a ≠ b → (TX5 a).2.1 ≠ (TX5 b).2.1 := by decide +kernel
set_option maxRecDepth 100000 in
theorem tyX5_ok : ∀ k, k < 36 → parseFieldDescriptor (TX5 k).2.2.1 = some (tyX5 k) := by decide +kernel
abbrev cX5_init : ByteArray := prog_21_method_5_code
def yX5_init : MethodName := ⟨RX5, "<init>", "()V"⟩
def dkwX5_init_10 : List UInt8 := [167, 255, 225, 177]
abbrev dktX5_init_10 : List UInt8 := dkwX5_init_10 ++ []
def dkwX5_init_9 : List UInt8 := [17, 2, 38, 27, 96, 4, 79, 42, 180, 0, 17, 17, 2, 42, 27, 96, 16, 100, 79, 132, 1, 1]
abbrev dktX5_init_9 : List UInt8 := dkwX5_init_9 ++ dktX5_init_10
def dkwX5_init_8 : List UInt8 := [188, 11, 181, 0, 79, 42, 180, 0, 17, 184, 0, 82, 3, 60, 27, 7, 162, 0, 32, 42, 180, 0, 17]
abbrev dktX5_init_8 : List UInt8 := dkwX5_init_8 ++ dktX5_init_9
def dkwX5_init_7 : List UInt8 := [79, 89, 5, 2, 79, 89, 6, 2, 79, 181, 0, 73, 42, 7, 188, 10, 181, 0, 76, 42, 17, 0, 160]
abbrev dktX5_init_7 : List UInt8 := dkwX5_init_7 ++ dktX5_init_8
def dkwX5_init_6 : List UInt8 := [188, 10, 181, 0, 67, 42, 16, 40, 188, 10, 181, 0, 70, 42, 7, 188, 10, 89, 3, 2, 79, 89, 4, 2]
abbrev dktX5_init_6 : List UInt8 := dkwX5_init_6 ++ dktX5_init_7
def dkwX5_init_5 : List UInt8 := [181, 0, 58, 42, 16, 8, 188, 11, 181, 0, 61, 42, 17, 50, 200, 188, 10, 181, 0, 64, 42, 17, 50, 200]
abbrev dktX5_init_5 : List UInt8 := dkwX5_init_5 ++ dktX5_init_6
def dkwX5_init_4 : List UInt8 := [181, 0, 48, 42, 16, 8, 188, 4, 181, 0, 51, 42, 8, 188, 11, 181, 0, 54, 42, 16, 8, 188, 11]
abbrev dktX5_init_4 : List UInt8 := dkwX5_init_4 ++ dktX5_init_5
def dkwX5_init_3 : List UInt8 := [17, 0, 220, 188, 4, 181, 0, 39, 42, 2, 181, 0, 42, 42, 2, 181, 0, 45, 42, 16, 8, 188, 4]
abbrev dktX5_init_3 : List UInt8 := dkwX5_init_3 ++ dktX5_init_4
def dkwX5_init_2 : List UInt8 := [2, 181, 0, 30, 42, 16, 42, 188, 10, 181, 0, 33, 42, 17, 1, 248, 188, 10, 181, 0, 36, 42]
abbrev dktX5_init_2 : List UInt8 := dkwX5_init_2 ++ dktX5_init_3
def dkwX5_init_1 : List UInt8 := [188, 4, 181, 0, 20, 42, 17, 1, 144, 188, 10, 181, 0, 24, 42, 17, 1, 221, 188, 10, 181, 0, 27, 42]
abbrev dktX5_init_1 : List UInt8 := dkwX5_init_1 ++ dktX5_init_2
def dkwX5_init_0 : List UInt8 := [42, 183, 0, 11, 42, 16, 6, 188, 10, 181, 0, 7, 42, 17, 6, 198, 188, 10, 181, 0, 17, 42, 5]
abbrev dktX5_init_0 : List UInt8 := dkwX5_init_0 ++ dktX5_init_1
theorem dksX5_init_0 : cX5_init.data.toList.drop 0 = dktX5_init_0 := by decide +kernel
theorem dksX5_init_1 : cX5_init.data.toList.drop 23 = dktX5_init_1 := dk_seg dksX5_init_0 23 rfl rfl
theorem dksX5_init_2 : cX5_init.data.toList.drop 47 = dktX5_init_2 := dk_seg dksX5_init_1 24 rfl rfl
theorem dksX5_init_3 : cX5_init.data.toList.drop 69 = dktX5_init_3 := dk_seg dksX5_init_2 22 rfl rfl
theorem dksX5_init_4 : cX5_init.data.toList.drop 92 = dktX5_init_4 := dk_seg dksX5_init_3 23 rfl rfl
theorem dksX5_init_5 : cX5_init.data.toList.drop 115 = dktX5_init_5 := dk_seg dksX5_init_4 23 rfl rfl
theorem dksX5_init_6 : cX5_init.data.toList.drop 139 = dktX5_init_6 := dk_seg dksX5_init_5 24 rfl rfl
theorem dksX5_init_7 : cX5_init.data.toList.drop 163 = dktX5_init_7 := dk_seg dksX5_init_6 24 rfl rfl
theorem dksX5_init_8 : cX5_init.data.toList.drop 186 = dktX5_init_8 := dk_seg dksX5_init_7 23 rfl rfl
theorem dksX5_init_9 : cX5_init.data.toList.drop 209 = dktX5_init_9 := dk_seg dksX5_init_8 23 rfl rfl
theorem dksX5_init_10 : cX5_init.data.toList.drop 231 = dktX5_init_10 := dk_seg dksX5_init_9 22 rfl rfl
theorem dX5_init_0 : decode cX5_init 0 = .ok (.aload_n 0, 1) := dk_42 (dk_at dksX5_init_0 0 rfl rfl)
theorem dX5_init_1 : decode cX5_init 1 = .ok (.invokespecial 11, 3) := dk_183 0 11 (dk_at dksX5_init_0 1 rfl rfl)
theorem dX5_init_4 : decode cX5_init 4 = .ok (.aload_n 0, 1) := dk_42 (dk_at dksX5_init_0 4 rfl rfl)
theorem dX5_init_5 : decode cX5_init 5 = .ok (.bipush 6, 2) := dk_16 6 (dk_at dksX5_init_0 5 rfl rfl)
theorem dX5_init_7 : decode cX5_init 7 = .ok (.newarray .int, 2) := dk_188_10 (dk_at dksX5_init_0 7 rfl rfl)
theorem dX5_init_9 : decode cX5_init 9 = .ok (.putfield 7, 3) := dk_181 0 7 (dk_at dksX5_init_0 9 rfl rfl)
theorem dX5_init_12 : decode cX5_init 12 = .ok (.aload_n 0, 1) := dk_42 (dk_at dksX5_init_0 12 rfl rfl)
theorem dX5_init_13 : decode cX5_init 13 = .ok (.sipush 1734, 3) := dk_17 6 198 (dk_at dksX5_init_0 13 rfl rfl)
theorem dX5_init_16 : decode cX5_init 16 = .ok (.newarray .int, 2) := dk_188_10 (dk_at dksX5_init_0 16 rfl rfl)
theorem dX5_init_18 : decode cX5_init 18 = .ok (.putfield 17, 3) := dk_181 0 17 (dk_at dksX5_init_0 18 rfl rfl)
theorem dX5_init_21 : decode cX5_init 21 = .ok (.aload_n 0, 1) := dk_42 (dk_at dksX5_init_0 21 rfl rfl)
theorem dX5_init_22 : decode cX5_init 22 = .ok (.iconst 2, 1) := dk_5 (dk_at dksX5_init_0 22 rfl rfl)
theorem dX5_init_23 : decode cX5_init 23 = .ok (.newarray .boolean, 2) := dk_188_4 (dk_at dksX5_init_1 0 rfl rfl)
theorem dX5_init_25 : decode cX5_init 25 = .ok (.putfield 20, 3) := dk_181 0 20 (dk_at dksX5_init_1 2 rfl rfl)
theorem dX5_init_28 : decode cX5_init 28 = .ok (.aload_n 0, 1) := dk_42 (dk_at dksX5_init_1 5 rfl rfl)
theorem dX5_init_29 : decode cX5_init 29 = .ok (.sipush 400, 3) := dk_17 1 144 (dk_at dksX5_init_1 6 rfl rfl)
theorem dX5_init_32 : decode cX5_init 32 = .ok (.newarray .int, 2) := dk_188_10 (dk_at dksX5_init_1 9 rfl rfl)
theorem dX5_init_34 : decode cX5_init 34 = .ok (.putfield 24, 3) := dk_181 0 24 (dk_at dksX5_init_1 11 rfl rfl)
theorem dX5_init_37 : decode cX5_init 37 = .ok (.aload_n 0, 1) := dk_42 (dk_at dksX5_init_1 14 rfl rfl)
theorem dX5_init_38 : decode cX5_init 38 = .ok (.sipush 477, 3) := dk_17 1 221 (dk_at dksX5_init_1 15 rfl rfl)
theorem dX5_init_41 : decode cX5_init 41 = .ok (.newarray .int, 2) := dk_188_10 (dk_at dksX5_init_1 18 rfl rfl)
theorem dX5_init_43 : decode cX5_init 43 = .ok (.putfield 27, 3) := dk_181 0 27 (dk_at dksX5_init_1 20 rfl rfl)
theorem dX5_init_46 : decode cX5_init 46 = .ok (.aload_n 0, 1) := dk_42 (dk_at dksX5_init_1 23 rfl rfl)
theorem dX5_init_47 : decode cX5_init 47 = .ok (.iconst (-1), 1) := dk_2 (dk_at dksX5_init_2 0 rfl rfl)
theorem dX5_init_48 : decode cX5_init 48 = .ok (.putfield 30, 3) := dk_181 0 30 (dk_at dksX5_init_2 1 rfl rfl)
theorem dX5_init_51 : decode cX5_init 51 = .ok (.aload_n 0, 1) := dk_42 (dk_at dksX5_init_2 4 rfl rfl)
theorem dX5_init_52 : decode cX5_init 52 = .ok (.bipush 42, 2) := dk_16 42 (dk_at dksX5_init_2 5 rfl rfl)
theorem dX5_init_54 : decode cX5_init 54 = .ok (.newarray .int, 2) := dk_188_10 (dk_at dksX5_init_2 7 rfl rfl)
theorem dX5_init_56 : decode cX5_init 56 = .ok (.putfield 33, 3) := dk_181 0 33 (dk_at dksX5_init_2 9 rfl rfl)
theorem dX5_init_59 : decode cX5_init 59 = .ok (.aload_n 0, 1) := dk_42 (dk_at dksX5_init_2 12 rfl rfl)
theorem dX5_init_60 : decode cX5_init 60 = .ok (.sipush 504, 3) := dk_17 1 248 (dk_at dksX5_init_2 13 rfl rfl)
theorem dX5_init_63 : decode cX5_init 63 = .ok (.newarray .int, 2) := dk_188_10 (dk_at dksX5_init_2 16 rfl rfl)
theorem dX5_init_65 : decode cX5_init 65 = .ok (.putfield 36, 3) := dk_181 0 36 (dk_at dksX5_init_2 18 rfl rfl)
theorem dX5_init_68 : decode cX5_init 68 = .ok (.aload_n 0, 1) := dk_42 (dk_at dksX5_init_2 21 rfl rfl)
theorem dX5_init_69 : decode cX5_init 69 = .ok (.sipush 220, 3) := dk_17 0 220 (dk_at dksX5_init_3 0 rfl rfl)
theorem dX5_init_72 : decode cX5_init 72 = .ok (.newarray .boolean, 2) := dk_188_4 (dk_at dksX5_init_3 3 rfl rfl)
theorem dX5_init_74 : decode cX5_init 74 = .ok (.putfield 39, 3) := dk_181 0 39 (dk_at dksX5_init_3 5 rfl rfl)
theorem dX5_init_77 : decode cX5_init 77 = .ok (.aload_n 0, 1) := dk_42 (dk_at dksX5_init_3 8 rfl rfl)
theorem dX5_init_78 : decode cX5_init 78 = .ok (.iconst (-1), 1) := dk_2 (dk_at dksX5_init_3 9 rfl rfl)
theorem dX5_init_79 : decode cX5_init 79 = .ok (.putfield 42, 3) := dk_181 0 42 (dk_at dksX5_init_3 10 rfl rfl)
theorem dX5_init_82 : decode cX5_init 82 = .ok (.aload_n 0, 1) := dk_42 (dk_at dksX5_init_3 13 rfl rfl)
theorem dX5_init_83 : decode cX5_init 83 = .ok (.iconst (-1), 1) := dk_2 (dk_at dksX5_init_3 14 rfl rfl)
theorem dX5_init_84 : decode cX5_init 84 = .ok (.putfield 45, 3) := dk_181 0 45 (dk_at dksX5_init_3 15 rfl rfl)
theorem dX5_init_87 : decode cX5_init 87 = .ok (.aload_n 0, 1) := dk_42 (dk_at dksX5_init_3 18 rfl rfl)
theorem dX5_init_88 : decode cX5_init 88 = .ok (.bipush 8, 2) := dk_16 8 (dk_at dksX5_init_3 19 rfl rfl)
theorem dX5_init_90 : decode cX5_init 90 = .ok (.newarray .boolean, 2) := dk_188_4 (dk_at dksX5_init_3 21 rfl rfl)
theorem dX5_init_92 : decode cX5_init 92 = .ok (.putfield 48, 3) := dk_181 0 48 (dk_at dksX5_init_4 0 rfl rfl)
theorem dX5_init_95 : decode cX5_init 95 = .ok (.aload_n 0, 1) := dk_42 (dk_at dksX5_init_4 3 rfl rfl)
theorem dX5_init_96 : decode cX5_init 96 = .ok (.bipush 8, 2) := dk_16 8 (dk_at dksX5_init_4 4 rfl rfl)
theorem dX5_init_98 : decode cX5_init 98 = .ok (.newarray .boolean, 2) := dk_188_4 (dk_at dksX5_init_4 6 rfl rfl)
theorem dX5_init_100 : decode cX5_init 100 = .ok (.putfield 51, 3) := dk_181 0 51 (dk_at dksX5_init_4 8 rfl rfl)
theorem dX5_init_103 : decode cX5_init 103 = .ok (.aload_n 0, 1) := dk_42 (dk_at dksX5_init_4 11 rfl rfl)
theorem dX5_init_104 : decode cX5_init 104 = .ok (.iconst 5, 1) := dk_8 (dk_at dksX5_init_4 12 rfl rfl)
theorem dX5_init_105 : decode cX5_init 105 = .ok (.newarray .long, 2) := dk_188_11 (dk_at dksX5_init_4 13 rfl rfl)
theorem dX5_init_107 : decode cX5_init 107 = .ok (.putfield 54, 3) := dk_181 0 54 (dk_at dksX5_init_4 15 rfl rfl)
theorem dX5_init_110 : decode cX5_init 110 = .ok (.aload_n 0, 1) := dk_42 (dk_at dksX5_init_4 18 rfl rfl)
theorem dX5_init_111 : decode cX5_init 111 = .ok (.bipush 8, 2) := dk_16 8 (dk_at dksX5_init_4 19 rfl rfl)
theorem dX5_init_113 : decode cX5_init 113 = .ok (.newarray .long, 2) := dk_188_11 (dk_at dksX5_init_4 21 rfl rfl)
theorem dX5_init_115 : decode cX5_init 115 = .ok (.putfield 58, 3) := dk_181 0 58 (dk_at dksX5_init_5 0 rfl rfl)
theorem dX5_init_118 : decode cX5_init 118 = .ok (.aload_n 0, 1) := dk_42 (dk_at dksX5_init_5 3 rfl rfl)
theorem dX5_init_119 : decode cX5_init 119 = .ok (.bipush 8, 2) := dk_16 8 (dk_at dksX5_init_5 4 rfl rfl)
theorem dX5_init_121 : decode cX5_init 121 = .ok (.newarray .long, 2) := dk_188_11 (dk_at dksX5_init_5 6 rfl rfl)
theorem dX5_init_123 : decode cX5_init 123 = .ok (.putfield 61, 3) := dk_181 0 61 (dk_at dksX5_init_5 8 rfl rfl)
theorem dX5_init_126 : decode cX5_init 126 = .ok (.aload_n 0, 1) := dk_42 (dk_at dksX5_init_5 11 rfl rfl)
theorem dX5_init_127 : decode cX5_init 127 = .ok (.sipush 13000, 3) := dk_17 50 200 (dk_at dksX5_init_5 12 rfl rfl)
theorem dX5_init_130 : decode cX5_init 130 = .ok (.newarray .int, 2) := dk_188_10 (dk_at dksX5_init_5 15 rfl rfl)
theorem dX5_init_132 : decode cX5_init 132 = .ok (.putfield 64, 3) := dk_181 0 64 (dk_at dksX5_init_5 17 rfl rfl)
theorem dX5_init_135 : decode cX5_init 135 = .ok (.aload_n 0, 1) := dk_42 (dk_at dksX5_init_5 20 rfl rfl)
theorem dX5_init_136 : decode cX5_init 136 = .ok (.sipush 13000, 3) := dk_17 50 200 (dk_at dksX5_init_5 21 rfl rfl)
theorem dX5_init_139 : decode cX5_init 139 = .ok (.newarray .int, 2) := dk_188_10 (dk_at dksX5_init_6 0 rfl rfl)
theorem dX5_init_141 : decode cX5_init 141 = .ok (.putfield 67, 3) := dk_181 0 67 (dk_at dksX5_init_6 2 rfl rfl)
theorem dX5_init_144 : decode cX5_init 144 = .ok (.aload_n 0, 1) := dk_42 (dk_at dksX5_init_6 5 rfl rfl)
theorem dX5_init_145 : decode cX5_init 145 = .ok (.bipush 40, 2) := dk_16 40 (dk_at dksX5_init_6 6 rfl rfl)
theorem dX5_init_147 : decode cX5_init 147 = .ok (.newarray .int, 2) := dk_188_10 (dk_at dksX5_init_6 8 rfl rfl)
theorem dX5_init_149 : decode cX5_init 149 = .ok (.putfield 70, 3) := dk_181 0 70 (dk_at dksX5_init_6 10 rfl rfl)
theorem dX5_init_152 : decode cX5_init 152 = .ok (.aload_n 0, 1) := dk_42 (dk_at dksX5_init_6 13 rfl rfl)
theorem dX5_init_153 : decode cX5_init 153 = .ok (.iconst 4, 1) := dk_7 (dk_at dksX5_init_6 14 rfl rfl)
theorem dX5_init_154 : decode cX5_init 154 = .ok (.newarray .int, 2) := dk_188_10 (dk_at dksX5_init_6 15 rfl rfl)
theorem dX5_init_156 : decode cX5_init 156 = .ok (.dup, 1) := dk_89 (dk_at dksX5_init_6 17 rfl rfl)
theorem dX5_init_157 : decode cX5_init 157 = .ok (.iconst 0, 1) := dk_3 (dk_at dksX5_init_6 18 rfl rfl)
theorem dX5_init_158 : decode cX5_init 158 = .ok (.iconst (-1), 1) := dk_2 (dk_at dksX5_init_6 19 rfl rfl)
theorem dX5_init_159 : decode cX5_init 159 = .ok (.iastore, 1) := dk_79 (dk_at dksX5_init_6 20 rfl rfl)
theorem dX5_init_160 : decode cX5_init 160 = .ok (.dup, 1) := dk_89 (dk_at dksX5_init_6 21 rfl rfl)
theorem dX5_init_161 : decode cX5_init 161 = .ok (.iconst 1, 1) := dk_4 (dk_at dksX5_init_6 22 rfl rfl)
theorem dX5_init_162 : decode cX5_init 162 = .ok (.iconst (-1), 1) := dk_2 (dk_at dksX5_init_6 23 rfl rfl)
theorem dX5_init_163 : decode cX5_init 163 = .ok (.iastore, 1) := dk_79 (dk_at dksX5_init_7 0 rfl rfl)
theorem dX5_init_164 : decode cX5_init 164 = .ok (.dup, 1) := dk_89 (dk_at dksX5_init_7 1 rfl rfl)
theorem dX5_init_165 : decode cX5_init 165 = .ok (.iconst 2, 1) := dk_5 (dk_at dksX5_init_7 2 rfl rfl)
theorem dX5_init_166 : decode cX5_init 166 = .ok (.iconst (-1), 1) := dk_2 (dk_at dksX5_init_7 3 rfl rfl)
theorem dX5_init_167 : decode cX5_init 167 = .ok (.iastore, 1) := dk_79 (dk_at dksX5_init_7 4 rfl rfl)
theorem dX5_init_168 : decode cX5_init 168 = .ok (.dup, 1) := dk_89 (dk_at dksX5_init_7 5 rfl rfl)
theorem dX5_init_169 : decode cX5_init 169 = .ok (.iconst 3, 1) := dk_6 (dk_at dksX5_init_7 6 rfl rfl)
theorem dX5_init_170 : decode cX5_init 170 = .ok (.iconst (-1), 1) := dk_2 (dk_at dksX5_init_7 7 rfl rfl)
theorem dX5_init_171 : decode cX5_init 171 = .ok (.iastore, 1) := dk_79 (dk_at dksX5_init_7 8 rfl rfl)
theorem dX5_init_172 : decode cX5_init 172 = .ok (.putfield 73, 3) := dk_181 0 73 (dk_at dksX5_init_7 9 rfl rfl)
theorem dX5_init_175 : decode cX5_init 175 = .ok (.aload_n 0, 1) := dk_42 (dk_at dksX5_init_7 12 rfl rfl)
theorem dX5_init_176 : decode cX5_init 176 = .ok (.iconst 4, 1) := dk_7 (dk_at dksX5_init_7 13 rfl rfl)
theorem dX5_init_177 : decode cX5_init 177 = .ok (.newarray .int, 2) := dk_188_10 (dk_at dksX5_init_7 14 rfl rfl)
theorem dX5_init_179 : decode cX5_init 179 = .ok (.putfield 76, 3) := dk_181 0 76 (dk_at dksX5_init_7 16 rfl rfl)
theorem dX5_init_182 : decode cX5_init 182 = .ok (.aload_n 0, 1) := dk_42 (dk_at dksX5_init_7 19 rfl rfl)
theorem dX5_init_183 : decode cX5_init 183 = .ok (.sipush 160, 3) := dk_17 0 160 (dk_at dksX5_init_7 20 rfl rfl)
theorem dX5_init_186 : decode cX5_init 186 = .ok (.newarray .long, 2) := dk_188_11 (dk_at dksX5_init_8 0 rfl rfl)
theorem dX5_init_188 : decode cX5_init 188 = .ok (.putfield 79, 3) := dk_181 0 79 (dk_at dksX5_init_8 2 rfl rfl)
theorem dX5_init_191 : decode cX5_init 191 = .ok (.aload_n 0, 1) := dk_42 (dk_at dksX5_init_8 5 rfl rfl)
theorem dX5_init_192 : decode cX5_init 192 = .ok (.getfield 17, 3) := dk_180 0 17 (dk_at dksX5_init_8 6 rfl rfl)
theorem dX5_init_195 : decode cX5_init 195 = .ok (.invokestatic 82, 3) := dk_184 0 82 (dk_at dksX5_init_8 9 rfl rfl)
theorem dX5_init_198 : decode cX5_init 198 = .ok (.iconst 0, 1) := dk_3 (dk_at dksX5_init_8 12 rfl rfl)
theorem dX5_init_199 : decode cX5_init 199 = .ok (.istore_n 1, 1) := dk_60 (dk_at dksX5_init_8 13 rfl rfl)
theorem dX5_init_200 : decode cX5_init 200 = .ok (.iload_n 1, 1) := dk_27 (dk_at dksX5_init_8 14 rfl rfl)
theorem dX5_init_201 : decode cX5_init 201 = .ok (.iconst 4, 1) := dk_7 (dk_at dksX5_init_8 15 rfl rfl)
theorem dX5_init_202 : decode cX5_init 202 = .ok (.if_icmp .ge 32, 3) := dk_162 0 32 (dk_at dksX5_init_8 16 rfl rfl)
theorem dX5_init_205 : decode cX5_init 205 = .ok (.aload_n 0, 1) := dk_42 (dk_at dksX5_init_8 19 rfl rfl)
theorem dX5_init_206 : decode cX5_init 206 = .ok (.getfield 17, 3) := dk_180 0 17 (dk_at dksX5_init_8 20 rfl rfl)
theorem dX5_init_209 : decode cX5_init 209 = .ok (.sipush 550, 3) := dk_17 2 38 (dk_at dksX5_init_9 0 rfl rfl)
theorem dX5_init_212 : decode cX5_init 212 = .ok (.iload_n 1, 1) := dk_27 (dk_at dksX5_init_9 3 rfl rfl)
theorem dX5_init_213 : decode cX5_init 213 = .ok (.iadd, 1) := dk_96 (dk_at dksX5_init_9 4 rfl rfl)
theorem dX5_init_214 : decode cX5_init 214 = .ok (.iconst 1, 1) := dk_4 (dk_at dksX5_init_9 5 rfl rfl)
theorem dX5_init_215 : decode cX5_init 215 = .ok (.iastore, 1) := dk_79 (dk_at dksX5_init_9 6 rfl rfl)
theorem dX5_init_216 : decode cX5_init 216 = .ok (.aload_n 0, 1) := dk_42 (dk_at dksX5_init_9 7 rfl rfl)
theorem dX5_init_217 : decode cX5_init 217 = .ok (.getfield 17, 3) := dk_180 0 17 (dk_at dksX5_init_9 8 rfl rfl)
theorem dX5_init_220 : decode cX5_init 220 = .ok (.sipush 554, 3) := dk_17 2 42 (dk_at dksX5_init_9 11 rfl rfl)
theorem dX5_init_223 : decode cX5_init 223 = .ok (.iload_n 1, 1) := dk_27 (dk_at dksX5_init_9 14 rfl rfl)
theorem dX5_init_224 : decode cX5_init 224 = .ok (.iadd, 1) := dk_96 (dk_at dksX5_init_9 15 rfl rfl)
theorem dX5_init_225 : decode cX5_init 225 = .ok (.bipush 100, 2) := dk_16 100 (dk_at dksX5_init_9 16 rfl rfl)
theorem dX5_init_227 : decode cX5_init 227 = .ok (.iastore, 1) := dk_79 (dk_at dksX5_init_9 18 rfl rfl)
theorem dX5_init_228 : decode cX5_init 228 = .ok (.iinc 1 1, 3) := dk_132 1 1 (dk_at dksX5_init_9 19 rfl rfl)
theorem dX5_init_231 : decode cX5_init 231 = .ok (.goto (-31), 3) := dk_167 255 225 (dk_at dksX5_init_10 0 rfl rfl)
theorem dX5_init_234 : decode cX5_init 234 = .ok (.return_, 1) := dk_177 (dk_at dksX5_init_10 3 rfl rfl)
abbrev cX5_plain : ByteArray := prog_21_method_6_code
def yX5_plain : MethodName := ⟨RX5, "plain", "([I)V"⟩
def dkwX5_plain_2 : List UInt8 := [16, 40, 167, 0, 4, 3, 79, 132, 1, 1, 167, 255, 202, 177]
abbrev dktX5_plain_2 : List UInt8 := dkwX5_plain_2 ++ []
def dkwX5_plain_1 : List UInt8 := [160, 0, 7, 6, 167, 0, 26, 27, 16, 37, 160, 0, 8, 16, 20, 167, 0, 15, 27, 16, 38, 160, 0, 8]
abbrev dktX5_plain_1 : List UInt8 := dkwX5_plain_1 ++ dktX5_plain_2
def dkwX5_plain_0 : List UInt8 := [3, 60, 27, 17, 1, 221, 162, 0, 53, 42, 27, 27, 154, 0, 7, 4, 167, 0, 36, 27, 16, 36]
abbrev dktX5_plain_0 : List UInt8 := dkwX5_plain_0 ++ dktX5_plain_1
theorem dksX5_plain_0 : cX5_plain.data.toList.drop 0 = dktX5_plain_0 := by decide +kernel
theorem dksX5_plain_1 : cX5_plain.data.toList.drop 22 = dktX5_plain_1 := dk_seg dksX5_plain_0 22 rfl rfl
theorem dksX5_plain_2 : cX5_plain.data.toList.drop 46 = dktX5_plain_2 := dk_seg dksX5_plain_1 24 rfl rfl
theorem dX5_plain_0 : decode cX5_plain 0 = .ok (.iconst 0, 1) := dk_3 (dk_at dksX5_plain_0 0 rfl rfl)
theorem dX5_plain_1 : decode cX5_plain 1 = .ok (.istore_n 1, 1) := dk_60 (dk_at dksX5_plain_0 1 rfl rfl)
theorem dX5_plain_2 : decode cX5_plain 2 = .ok (.iload_n 1, 1) := dk_27 (dk_at dksX5_plain_0 2 rfl rfl)
theorem dX5_plain_3 : decode cX5_plain 3 = .ok (.sipush 477, 3) := dk_17 1 221 (dk_at dksX5_plain_0 3 rfl rfl)
theorem dX5_plain_6 : decode cX5_plain 6 = .ok (.if_icmp .ge 53, 3) := dk_162 0 53 (dk_at dksX5_plain_0 6 rfl rfl)
theorem dX5_plain_9 : decode cX5_plain 9 = .ok (.aload_n 0, 1) := dk_42 (dk_at dksX5_plain_0 9 rfl rfl)
theorem dX5_plain_10 : decode cX5_plain 10 = .ok (.iload_n 1, 1) := dk_27 (dk_at dksX5_plain_0 10 rfl rfl)
theorem dX5_plain_11 : decode cX5_plain 11 = .ok (.iload_n 1, 1) := dk_27 (dk_at dksX5_plain_0 11 rfl rfl)
theorem dX5_plain_12 : decode cX5_plain 12 = .ok (.ifCond .ne 7, 3) := dk_154 0 7 (dk_at dksX5_plain_0 12 rfl rfl)
theorem dX5_plain_15 : decode cX5_plain 15 = .ok (.iconst 1, 1) := dk_4 (dk_at dksX5_plain_0 15 rfl rfl)
theorem dX5_plain_16 : decode cX5_plain 16 = .ok (.goto 36, 3) := dk_167 0 36 (dk_at dksX5_plain_0 16 rfl rfl)
theorem dX5_plain_19 : decode cX5_plain 19 = .ok (.iload_n 1, 1) := dk_27 (dk_at dksX5_plain_0 19 rfl rfl)
theorem dX5_plain_20 : decode cX5_plain 20 = .ok (.bipush 36, 2) := dk_16 36 (dk_at dksX5_plain_0 20 rfl rfl)
theorem dX5_plain_22 : decode cX5_plain 22 = .ok (.if_icmp .ne 7, 3) := dk_160 0 7 (dk_at dksX5_plain_1 0 rfl rfl)
theorem dX5_plain_25 : decode cX5_plain 25 = .ok (.iconst 3, 1) := dk_6 (dk_at dksX5_plain_1 3 rfl rfl)
theorem dX5_plain_26 : decode cX5_plain 26 = .ok (.goto 26, 3) := dk_167 0 26 (dk_at dksX5_plain_1 4 rfl rfl)
theorem dX5_plain_29 : decode cX5_plain 29 = .ok (.iload_n 1, 1) := dk_27 (dk_at dksX5_plain_1 7 rfl rfl)
theorem dX5_plain_30 : decode cX5_plain 30 = .ok (.bipush 37, 2) := dk_16 37 (dk_at dksX5_plain_1 8 rfl rfl)
theorem dX5_plain_32 : decode cX5_plain 32 = .ok (.if_icmp .ne 8, 3) := dk_160 0 8 (dk_at dksX5_plain_1 10 rfl rfl)
theorem dX5_plain_35 : decode cX5_plain 35 = .ok (.bipush 20, 2) := dk_16 20 (dk_at dksX5_plain_1 13 rfl rfl)
theorem dX5_plain_37 : decode cX5_plain 37 = .ok (.goto 15, 3) := dk_167 0 15 (dk_at dksX5_plain_1 15 rfl rfl)
theorem dX5_plain_40 : decode cX5_plain 40 = .ok (.iload_n 1, 1) := dk_27 (dk_at dksX5_plain_1 18 rfl rfl)
theorem dX5_plain_41 : decode cX5_plain 41 = .ok (.bipush 38, 2) := dk_16 38 (dk_at dksX5_plain_1 19 rfl rfl)
theorem dX5_plain_43 : decode cX5_plain 43 = .ok (.if_icmp .ne 8, 3) := dk_160 0 8 (dk_at dksX5_plain_1 21 rfl rfl)
theorem dX5_plain_46 : decode cX5_plain 46 = .ok (.bipush 40, 2) := dk_16 40 (dk_at dksX5_plain_2 0 rfl rfl)
theorem dX5_plain_48 : decode cX5_plain 48 = .ok (.goto 4, 3) := dk_167 0 4 (dk_at dksX5_plain_2 2 rfl rfl)
theorem dX5_plain_51 : decode cX5_plain 51 = .ok (.iconst 0, 1) := dk_3 (dk_at dksX5_plain_2 5 rfl rfl)
theorem dX5_plain_52 : decode cX5_plain 52 = .ok (.iastore, 1) := dk_79 (dk_at dksX5_plain_2 6 rfl rfl)
theorem dX5_plain_53 : decode cX5_plain 53 = .ok (.iinc 1 1, 3) := dk_132 1 1 (dk_at dksX5_plain_2 7 rfl rfl)
theorem dX5_plain_56 : decode cX5_plain 56 = .ok (.goto (-54), 3) := dk_167 255 202 (dk_at dksX5_plain_2 10 rfl rfl)
theorem dX5_plain_59 : decode cX5_plain 59 = .ok (.return_, 1) := dk_177 (dk_at dksX5_plain_2 13 rfl rfl)
abbrev cX5_feed : ByteArray := prog_21_method_7_code
def yX5_feed : MethodName := ⟨RX5, "feed", "(IIIII)I"⟩
def dkwX5_feed_5 : List UInt8 := [132, 6, 1, 167, 255, 162, 42, 180, 0, 86, 172]
abbrev dktX5_feed_5 : List UInt8 := dkwX5_feed_5 ++ []
def dkwX5_feed_4 : List UInt8 := [16, 8, 21, 6, 7, 112, 104, 100, 122, 17, 0, 255, 126, 79, 42, 89, 180, 0, 86, 4, 96, 181, 0, 86]
abbrev dktX5_feed_4 : List UInt8 := dkwX5_feed_4 ++ dktX5_feed_5
def dkwX5_feed_3 : List UInt8 := [162, 0, 8, 21, 4, 167, 0, 5, 21, 5, 54, 7, 42, 180, 0, 24, 42, 180, 0, 86, 21, 7, 16, 24]
abbrev dktX5_feed_3 : List UInt8 := dkwX5_feed_3 ++ dktX5_feed_4
def dkwX5_feed_2 : List UInt8 := [16, 8, 162, 0, 7, 28, 167, 0, 28, 21, 6, 16, 12, 162, 0, 7, 29, 167, 0, 17, 21, 6, 16, 16]
abbrev dktX5_feed_2 : List UInt8 := dkwX5_feed_2 ++ dktX5_feed_3
def dkwX5_feed_1 : List UInt8 := [172, 3, 54, 6, 21, 6, 16, 20, 162, 0, 93, 21, 6, 7, 162, 0, 7, 27, 167, 0, 39, 21, 6]
abbrev dktX5_feed_1 : List UInt8 := dkwX5_feed_1 ++ dktX5_feed_2
def dkwX5_feed_0 : List UInt8 := [42, 3, 181, 0, 1, 42, 180, 0, 86, 16, 20, 96, 17, 1, 144, 164, 0, 10, 42, 16, 251, 182, 0, 89]
abbrev dktX5_feed_0 : List UInt8 := dkwX5_feed_0 ++ dktX5_feed_1
theorem dksX5_feed_0 : cX5_feed.data.toList.drop 0 = dktX5_feed_0 := by decide +kernel
theorem dksX5_feed_1 : cX5_feed.data.toList.drop 24 = dktX5_feed_1 := dk_seg dksX5_feed_0 24 rfl rfl
theorem dksX5_feed_2 : cX5_feed.data.toList.drop 47 = dktX5_feed_2 := dk_seg dksX5_feed_1 23 rfl rfl
theorem dksX5_feed_3 : cX5_feed.data.toList.drop 71 = dktX5_feed_3 := dk_seg dksX5_feed_2 24 rfl rfl
theorem dksX5_feed_4 : cX5_feed.data.toList.drop 95 = dktX5_feed_4 := dk_seg dksX5_feed_3 24 rfl rfl
theorem dksX5_feed_5 : cX5_feed.data.toList.drop 119 = dktX5_feed_5 := dk_seg dksX5_feed_4 24 rfl rfl
theorem dX5_feed_0 : decode cX5_feed 0 = .ok (.aload_n 0, 1) := dk_42 (dk_at dksX5_feed_0 0 rfl rfl)
theorem dX5_feed_1 : decode cX5_feed 1 = .ok (.iconst 0, 1) := dk_3 (dk_at dksX5_feed_0 1 rfl rfl)
theorem dX5_feed_2 : decode cX5_feed 2 = .ok (.putfield 1, 3) := dk_181 0 1 (dk_at dksX5_feed_0 2 rfl rfl)
theorem dX5_feed_5 : decode cX5_feed 5 = .ok (.aload_n 0, 1) := dk_42 (dk_at dksX5_feed_0 5 rfl rfl)
theorem dX5_feed_6 : decode cX5_feed 6 = .ok (.getfield 86, 3) := dk_180 0 86 (dk_at dksX5_feed_0 6 rfl rfl)
theorem dX5_feed_9 : decode cX5_feed 9 = .ok (.bipush 20, 2) := dk_16 20 (dk_at dksX5_feed_0 9 rfl rfl)
theorem dX5_feed_11 : decode cX5_feed 11 = .ok (.iadd, 1) := dk_96 (dk_at dksX5_feed_0 11 rfl rfl)
theorem dX5_feed_12 : decode cX5_feed 12 = .ok (.sipush 400, 3) := dk_17 1 144 (dk_at dksX5_feed_0 12 rfl rfl)
theorem dX5_feed_15 : decode cX5_feed 15 = .ok (.if_icmp .le 10, 3) := dk_164 0 10 (dk_at dksX5_feed_0 15 rfl rfl)
theorem dX5_feed_18 : decode cX5_feed 18 = .ok (.aload_n 0, 1) := dk_42 (dk_at dksX5_feed_0 18 rfl rfl)
theorem dX5_feed_19 : decode cX5_feed 19 = .ok (.bipush (-5), 2) := dk_16 251 (dk_at dksX5_feed_0 19 rfl rfl)
theorem dX5_feed_21 : decode cX5_feed 21 = .ok (.invokevirtual 89, 3) := dk_182 0 89 (dk_at dksX5_feed_0 21 rfl rfl)
theorem dX5_feed_24 : decode cX5_feed 24 = .ok (.ireturn, 1) := dk_172 (dk_at dksX5_feed_1 0 rfl rfl)
theorem dX5_feed_25 : decode cX5_feed 25 = .ok (.iconst 0, 1) := dk_3 (dk_at dksX5_feed_1 1 rfl rfl)
theorem dX5_feed_26 : decode cX5_feed 26 = .ok (.istore 6, 2) := dk_54 6 (dk_at dksX5_feed_1 2 rfl rfl)
theorem dX5_feed_28 : decode cX5_feed 28 = .ok (.iload 6, 2) := dk_21 6 (dk_at dksX5_feed_1 4 rfl rfl)
theorem dX5_feed_30 : decode cX5_feed 30 = .ok (.bipush 20, 2) := dk_16 20 (dk_at dksX5_feed_1 6 rfl rfl)
theorem dX5_feed_32 : decode cX5_feed 32 = .ok (.if_icmp .ge 93, 3) := dk_162 0 93 (dk_at dksX5_feed_1 8 rfl rfl)
theorem dX5_feed_35 : decode cX5_feed 35 = .ok (.iload 6, 2) := dk_21 6 (dk_at dksX5_feed_1 11 rfl rfl)
theorem dX5_feed_37 : decode cX5_feed 37 = .ok (.iconst 4, 1) := dk_7 (dk_at dksX5_feed_1 13 rfl rfl)
theorem dX5_feed_38 : decode cX5_feed 38 = .ok (.if_icmp .ge 7, 3) := dk_162 0 7 (dk_at dksX5_feed_1 14 rfl rfl)
theorem dX5_feed_41 : decode cX5_feed 41 = .ok (.iload_n 1, 1) := dk_27 (dk_at dksX5_feed_1 17 rfl rfl)
theorem dX5_feed_42 : decode cX5_feed 42 = .ok (.goto 39, 3) := dk_167 0 39 (dk_at dksX5_feed_1 18 rfl rfl)
theorem dX5_feed_45 : decode cX5_feed 45 = .ok (.iload 6, 2) := dk_21 6 (dk_at dksX5_feed_1 21 rfl rfl)
theorem dX5_feed_47 : decode cX5_feed 47 = .ok (.bipush 8, 2) := dk_16 8 (dk_at dksX5_feed_2 0 rfl rfl)
theorem dX5_feed_49 : decode cX5_feed 49 = .ok (.if_icmp .ge 7, 3) := dk_162 0 7 (dk_at dksX5_feed_2 2 rfl rfl)
theorem dX5_feed_52 : decode cX5_feed 52 = .ok (.iload_n 2, 1) := dk_28 (dk_at dksX5_feed_2 5 rfl rfl)
theorem dX5_feed_53 : decode cX5_feed 53 = .ok (.goto 28, 3) := dk_167 0 28 (dk_at dksX5_feed_2 6 rfl rfl)
theorem dX5_feed_56 : decode cX5_feed 56 = .ok (.iload 6, 2) := dk_21 6 (dk_at dksX5_feed_2 9 rfl rfl)
theorem dX5_feed_58 : decode cX5_feed 58 = .ok (.bipush 12, 2) := dk_16 12 (dk_at dksX5_feed_2 11 rfl rfl)
theorem dX5_feed_60 : decode cX5_feed 60 = .ok (.if_icmp .ge 7, 3) := dk_162 0 7 (dk_at dksX5_feed_2 13 rfl rfl)
theorem dX5_feed_63 : decode cX5_feed 63 = .ok (.iload_n 3, 1) := dk_29 (dk_at dksX5_feed_2 16 rfl rfl)
theorem dX5_feed_64 : decode cX5_feed 64 = .ok (.goto 17, 3) := dk_167 0 17 (dk_at dksX5_feed_2 17 rfl rfl)
theorem dX5_feed_67 : decode cX5_feed 67 = .ok (.iload 6, 2) := dk_21 6 (dk_at dksX5_feed_2 20 rfl rfl)
theorem dX5_feed_69 : decode cX5_feed 69 = .ok (.bipush 16, 2) := dk_16 16 (dk_at dksX5_feed_2 22 rfl rfl)
theorem dX5_feed_71 : decode cX5_feed 71 = .ok (.if_icmp .ge 8, 3) := dk_162 0 8 (dk_at dksX5_feed_3 0 rfl rfl)
theorem dX5_feed_74 : decode cX5_feed 74 = .ok (.iload 4, 2) := dk_21 4 (dk_at dksX5_feed_3 3 rfl rfl)
theorem dX5_feed_76 : decode cX5_feed 76 = .ok (.goto 5, 3) := dk_167 0 5 (dk_at dksX5_feed_3 5 rfl rfl)
theorem dX5_feed_79 : decode cX5_feed 79 = .ok (.iload 5, 2) := dk_21 5 (dk_at dksX5_feed_3 8 rfl rfl)
theorem dX5_feed_81 : decode cX5_feed 81 = .ok (.istore 7, 2) := dk_54 7 (dk_at dksX5_feed_3 10 rfl rfl)
theorem dX5_feed_83 : decode cX5_feed 83 = .ok (.aload_n 0, 1) := dk_42 (dk_at dksX5_feed_3 12 rfl rfl)
theorem dX5_feed_84 : decode cX5_feed 84 = .ok (.getfield 24, 3) := dk_180 0 24 (dk_at dksX5_feed_3 13 rfl rfl)
theorem dX5_feed_87 : decode cX5_feed 87 = .ok (.aload_n 0, 1) := dk_42 (dk_at dksX5_feed_3 16 rfl rfl)
theorem dX5_feed_88 : decode cX5_feed 88 = .ok (.getfield 86, 3) := dk_180 0 86 (dk_at dksX5_feed_3 17 rfl rfl)
theorem dX5_feed_91 : decode cX5_feed 91 = .ok (.iload 7, 2) := dk_21 7 (dk_at dksX5_feed_3 20 rfl rfl)
theorem dX5_feed_93 : decode cX5_feed 93 = .ok (.bipush 24, 2) := dk_16 24 (dk_at dksX5_feed_3 22 rfl rfl)
theorem dX5_feed_95 : decode cX5_feed 95 = .ok (.bipush 8, 2) := dk_16 8 (dk_at dksX5_feed_4 0 rfl rfl)
theorem dX5_feed_97 : decode cX5_feed 97 = .ok (.iload 6, 2) := dk_21 6 (dk_at dksX5_feed_4 2 rfl rfl)
theorem dX5_feed_99 : decode cX5_feed 99 = .ok (.iconst 4, 1) := dk_7 (dk_at dksX5_feed_4 4 rfl rfl)
theorem dX5_feed_100 : decode cX5_feed 100 = .ok (.irem, 1) := dk_112 (dk_at dksX5_feed_4 5 rfl rfl)
theorem dX5_feed_101 : decode cX5_feed 101 = .ok (.imul, 1) := dk_104 (dk_at dksX5_feed_4 6 rfl rfl)
theorem dX5_feed_102 : decode cX5_feed 102 = .ok (.isub, 1) := dk_100 (dk_at dksX5_feed_4 7 rfl rfl)
theorem dX5_feed_103 : decode cX5_feed 103 = .ok (.ishr, 1) := dk_122 (dk_at dksX5_feed_4 8 rfl rfl)
theorem dX5_feed_104 : decode cX5_feed 104 = .ok (.sipush 255, 3) := dk_17 0 255 (dk_at dksX5_feed_4 9 rfl rfl)
theorem dX5_feed_107 : decode cX5_feed 107 = .ok (.iand, 1) := dk_126 (dk_at dksX5_feed_4 12 rfl rfl)
theorem dX5_feed_108 : decode cX5_feed 108 = .ok (.iastore, 1) := dk_79 (dk_at dksX5_feed_4 13 rfl rfl)
theorem dX5_feed_109 : decode cX5_feed 109 = .ok (.aload_n 0, 1) := dk_42 (dk_at dksX5_feed_4 14 rfl rfl)
theorem dX5_feed_110 : decode cX5_feed 110 = .ok (.dup, 1) := dk_89 (dk_at dksX5_feed_4 15 rfl rfl)
theorem dX5_feed_111 : decode cX5_feed 111 = .ok (.getfield 86, 3) := dk_180 0 86 (dk_at dksX5_feed_4 16 rfl rfl)
theorem dX5_feed_114 : decode cX5_feed 114 = .ok (.iconst 1, 1) := dk_4 (dk_at dksX5_feed_4 19 rfl rfl)
theorem dX5_feed_115 : decode cX5_feed 115 = .ok (.iadd, 1) := dk_96 (dk_at dksX5_feed_4 20 rfl rfl)
theorem dX5_feed_116 : decode cX5_feed 116 = .ok (.putfield 86, 3) := dk_181 0 86 (dk_at dksX5_feed_4 21 rfl rfl)
theorem dX5_feed_119 : decode cX5_feed 119 = .ok (.iinc 6 1, 3) := dk_132 6 1 (dk_at dksX5_feed_5 0 rfl rfl)
theorem dX5_feed_122 : decode cX5_feed 122 = .ok (.goto (-94), 3) := dk_167 255 162 (dk_at dksX5_feed_5 3 rfl rfl)
theorem dX5_feed_125 : decode cX5_feed 125 = .ok (.aload_n 0, 1) := dk_42 (dk_at dksX5_feed_5 6 rfl rfl)
theorem dX5_feed_126 : decode cX5_feed 126 = .ok (.getfield 86, 3) := dk_180 0 86 (dk_at dksX5_feed_5 7 rfl rfl)
theorem dX5_feed_129 : decode cX5_feed 129 = .ok (.ireturn, 1) := dk_172 (dk_at dksX5_feed_5 10 rfl rfl)
abbrev cX5_no : ByteArray := prog_21_method_2_code
def yX5_no : MethodName := ⟨RX5, "no", "(I)I"⟩
def dkwX5_no_2 : List UInt8 := [160, 0, 7, 7, 167, 0, 4, 8, 92, 46, 4, 96, 79, 27, 172]
abbrev dktX5_no_2 : List UInt8 := dkwX5_no_2 ++ []
def dkwX5_no_1 : List UInt8 := [27, 16, 251, 160, 0, 7, 5, 167, 0, 24, 27, 16, 250, 160, 0, 7, 6, 167, 0, 14, 27, 16, 249]
abbrev dktX5_no_1 : List UInt8 := dkwX5_no_1 ++ dktX5_no_2
def dkwX5_no_0 : List UInt8 := [42, 180, 0, 7, 27, 16, 254, 160, 0, 7, 3, 167, 0, 44, 27, 16, 253, 160, 0, 7, 4, 167, 0, 34]
abbrev dktX5_no_0 : List UInt8 := dkwX5_no_0 ++ dktX5_no_1
theorem dksX5_no_0 : cX5_no.data.toList.drop 0 = dktX5_no_0 := by decide +kernel
theorem dksX5_no_1 : cX5_no.data.toList.drop 24 = dktX5_no_1 := dk_seg dksX5_no_0 24 rfl rfl
theorem dksX5_no_2 : cX5_no.data.toList.drop 47 = dktX5_no_2 := dk_seg dksX5_no_1 23 rfl rfl
theorem dX5_no_0 : decode cX5_no 0 = .ok (.aload_n 0, 1) := dk_42 (dk_at dksX5_no_0 0 rfl rfl)
theorem dX5_no_1 : decode cX5_no 1 = .ok (.getfield 7, 3) := dk_180 0 7 (dk_at dksX5_no_0 1 rfl rfl)
theorem dX5_no_4 : decode cX5_no 4 = .ok (.iload_n 1, 1) := dk_27 (dk_at dksX5_no_0 4 rfl rfl)
theorem dX5_no_5 : decode cX5_no 5 = .ok (.bipush (-2), 2) := dk_16 254 (dk_at dksX5_no_0 5 rfl rfl)
theorem dX5_no_7 : decode cX5_no 7 = .ok (.if_icmp .ne 7, 3) := dk_160 0 7 (dk_at dksX5_no_0 7 rfl rfl)
theorem dX5_no_10 : decode cX5_no 10 = .ok (.iconst 0, 1) := dk_3 (dk_at dksX5_no_0 10 rfl rfl)
theorem dX5_no_11 : decode cX5_no 11 = .ok (.goto 44, 3) := dk_167 0 44 (dk_at dksX5_no_0 11 rfl rfl)
theorem dX5_no_14 : decode cX5_no 14 = .ok (.iload_n 1, 1) := dk_27 (dk_at dksX5_no_0 14 rfl rfl)
theorem dX5_no_15 : decode cX5_no 15 = .ok (.bipush (-3), 2) := dk_16 253 (dk_at dksX5_no_0 15 rfl rfl)
theorem dX5_no_17 : decode cX5_no 17 = .ok (.if_icmp .ne 7, 3) := dk_160 0 7 (dk_at dksX5_no_0 17 rfl rfl)
theorem dX5_no_20 : decode cX5_no 20 = .ok (.iconst 1, 1) := dk_4 (dk_at dksX5_no_0 20 rfl rfl)
theorem dX5_no_21 : decode cX5_no 21 = .ok (.goto 34, 3) := dk_167 0 34 (dk_at dksX5_no_0 21 rfl rfl)
theorem dX5_no_24 : decode cX5_no 24 = .ok (.iload_n 1, 1) := dk_27 (dk_at dksX5_no_1 0 rfl rfl)
theorem dX5_no_25 : decode cX5_no 25 = .ok (.bipush (-5), 2) := dk_16 251 (dk_at dksX5_no_1 1 rfl rfl)
theorem dX5_no_27 : decode cX5_no 27 = .ok (.if_icmp .ne 7, 3) := dk_160 0 7 (dk_at dksX5_no_1 3 rfl rfl)
theorem dX5_no_30 : decode cX5_no 30 = .ok (.iconst 2, 1) := dk_5 (dk_at dksX5_no_1 6 rfl rfl)
theorem dX5_no_31 : decode cX5_no 31 = .ok (.goto 24, 3) := dk_167 0 24 (dk_at dksX5_no_1 7 rfl rfl)
theorem dX5_no_34 : decode cX5_no 34 = .ok (.iload_n 1, 1) := dk_27 (dk_at dksX5_no_1 10 rfl rfl)
theorem dX5_no_35 : decode cX5_no 35 = .ok (.bipush (-6), 2) := dk_16 250 (dk_at dksX5_no_1 11 rfl rfl)
theorem dX5_no_37 : decode cX5_no 37 = .ok (.if_icmp .ne 7, 3) := dk_160 0 7 (dk_at dksX5_no_1 13 rfl rfl)
theorem dX5_no_40 : decode cX5_no 40 = .ok (.iconst 3, 1) := dk_6 (dk_at dksX5_no_1 16 rfl rfl)
theorem dX5_no_41 : decode cX5_no 41 = .ok (.goto 14, 3) := dk_167 0 14 (dk_at dksX5_no_1 17 rfl rfl)
theorem dX5_no_44 : decode cX5_no 44 = .ok (.iload_n 1, 1) := dk_27 (dk_at dksX5_no_1 20 rfl rfl)
theorem dX5_no_45 : decode cX5_no 45 = .ok (.bipush (-7), 2) := dk_16 249 (dk_at dksX5_no_1 21 rfl rfl)
theorem dX5_no_47 : decode cX5_no 47 = .ok (.if_icmp .ne 7, 3) := dk_160 0 7 (dk_at dksX5_no_2 0 rfl rfl)
theorem dX5_no_50 : decode cX5_no 50 = .ok (.iconst 4, 1) := dk_7 (dk_at dksX5_no_2 3 rfl rfl)
theorem dX5_no_51 : decode cX5_no 51 = .ok (.goto 4, 3) := dk_167 0 4 (dk_at dksX5_no_2 4 rfl rfl)
theorem dX5_no_54 : decode cX5_no 54 = .ok (.iconst 5, 1) := dk_8 (dk_at dksX5_no_2 7 rfl rfl)
theorem dX5_no_55 : decode cX5_no 55 = .ok (.dup2, 1) := dk_92 (dk_at dksX5_no_2 8 rfl rfl)
theorem dX5_no_56 : decode cX5_no 56 = .ok (.iaload, 1) := dk_46 (dk_at dksX5_no_2 9 rfl rfl)
theorem dX5_no_57 : decode cX5_no 57 = .ok (.iconst 1, 1) := dk_4 (dk_at dksX5_no_2 10 rfl rfl)
theorem dX5_no_58 : decode cX5_no 58 = .ok (.iadd, 1) := dk_96 (dk_at dksX5_no_2 11 rfl rfl)
theorem dX5_no_59 : decode cX5_no 59 = .ok (.iastore, 1) := dk_79 (dk_at dksX5_no_2 12 rfl rfl)
theorem dX5_no_60 : decode cX5_no 60 = .ok (.iload_n 1, 1) := dk_27 (dk_at dksX5_no_2 13 rfl rfl)
theorem dX5_no_61 : decode cX5_no 61 = .ok (.ireturn, 1) := dk_172 (dk_at dksX5_no_2 14 rfl rfl)
abbrev cX5_text : ByteArray := prog_21_method_27_code
def yX5_text : MethodName := ⟨RX5, "text", "(II)I"⟩
def dkwX5_text_10 : List UInt8 := [180, 0, 17, 16, 40, 46, 172]
abbrev dktX5_text_10 : List UInt8 := dkwX5_text_10 ++ []
def dkwX5_text_9 : List UInt8 := [46, 79, 132, 5, 1, 167, 255, 232, 27, 154, 0, 13, 42, 180, 0, 17, 16, 39, 46, 167, 0, 10, 42]
abbrev dktX5_text_9 : List UInt8 := dkwX5_text_9 ++ dktX5_text_10
def dkwX5_text_8 : List UInt8 := [54, 4, 29, 54, 5, 21, 5, 21, 4, 162, 0, 23, 42, 180, 0, 17, 21, 5, 42, 180, 0, 27, 21, 5]
abbrev dktX5_text_8 : List UInt8 := dkwX5_text_8 ++ dktX5_text_9
def dkwX5_text_7 : List UInt8 := [172, 27, 154, 0, 7, 3, 167, 0, 5, 16, 40, 62, 27, 154, 0, 8, 16, 40, 167, 0, 6, 17, 1, 221]
abbrev dktX5_text_7 : List UInt8 := dkwX5_text_7 ++ dktX5_text_8
def dkwX5_text_6 : List UInt8 := [180, 0, 136, 181, 0, 30, 42, 180, 0, 133, 153, 0, 15, 42, 16, 226, 42, 180, 0, 133, 100, 182, 0, 89]
abbrev dktX5_text_6 : List UInt8 := dkwX5_text_6 ++ dktX5_text_7
def dkwX5_text_5 : List UInt8 := [167, 255, 225, 42, 42, 180, 0, 133, 181, 0, 207, 42, 42, 180, 0, 133, 154, 0, 7, 2, 167, 0, 7, 42]
abbrev dktX5_text_5 : List UInt8 := dkwX5_text_5 ++ dktX5_text_6
def dkwX5_text_4 : List UInt8 := [180, 0, 117, 16, 34, 159, 0, 21, 27, 154, 0, 10, 42, 182, 0, 201, 167, 255, 232, 42, 182, 0, 204]
abbrev dktX5_text_4 : List UInt8 := dkwX5_text_4 ++ dktX5_text_5
def dkwX5_text_3 : List UInt8 := [181, 0, 176, 42, 180, 0, 27, 184, 0, 82, 42, 182, 0, 142, 42, 180, 0, 133, 154, 0, 30, 42]
abbrev dktX5_text_3 : List UInt8 := dkwX5_text_3 ++ dktX5_text_4
def dkwX5_text_2 : List UInt8 := [42, 3, 181, 0, 86, 42, 3, 181, 0, 111, 42, 3, 181, 0, 133, 42, 3, 181, 0, 189, 42, 3]
abbrev dktX5_text_2 : List UInt8 := dkwX5_text_2 ++ dktX5_text_3
def dkwX5_text_1 : List UInt8 := [9, 42, 180, 0, 86, 133, 184, 0, 152, 154, 0, 10, 42, 16, 253, 182, 0, 89, 172, 42, 28, 181, 0, 93]
abbrev dktX5_text_1 : List UInt8 := dkwX5_text_1 ++ dktX5_text_2
def dkwX5_text_0 : List UInt8 := [42, 3, 181, 0, 1, 27, 133, 9, 10, 184, 0, 152, 154, 0, 10, 42, 16, 254, 182, 0, 89, 172, 28, 133]
abbrev dktX5_text_0 : List UInt8 := dkwX5_text_0 ++ dktX5_text_1
theorem dksX5_text_0 : cX5_text.data.toList.drop 0 = dktX5_text_0 := by decide +kernel
theorem dksX5_text_1 : cX5_text.data.toList.drop 24 = dktX5_text_1 := dk_seg dksX5_text_0 24 rfl rfl
theorem dksX5_text_2 : cX5_text.data.toList.drop 48 = dktX5_text_2 := dk_seg dksX5_text_1 24 rfl rfl
theorem dksX5_text_3 : cX5_text.data.toList.drop 70 = dktX5_text_3 := dk_seg dksX5_text_2 22 rfl rfl
theorem dksX5_text_4 : cX5_text.data.toList.drop 92 = dktX5_text_4 := dk_seg dksX5_text_3 22 rfl rfl
theorem dksX5_text_5 : cX5_text.data.toList.drop 115 = dktX5_text_5 := dk_seg dksX5_text_4 23 rfl rfl
theorem dksX5_text_6 : cX5_text.data.toList.drop 139 = dktX5_text_6 := dk_seg dksX5_text_5 24 rfl rfl
theorem dksX5_text_7 : cX5_text.data.toList.drop 163 = dktX5_text_7 := dk_seg dksX5_text_6 24 rfl rfl
theorem dksX5_text_8 : cX5_text.data.toList.drop 187 = dktX5_text_8 := dk_seg dksX5_text_7 24 rfl rfl
theorem dksX5_text_9 : cX5_text.data.toList.drop 211 = dktX5_text_9 := dk_seg dksX5_text_8 24 rfl rfl
theorem dksX5_text_10 : cX5_text.data.toList.drop 234 = dktX5_text_10 := dk_seg dksX5_text_9 23 rfl rfl
theorem dX5_text_0 : decode cX5_text 0 = .ok (.aload_n 0, 1) := dk_42 (dk_at dksX5_text_0 0 rfl rfl)
theorem dX5_text_1 : decode cX5_text 1 = .ok (.iconst 0, 1) := dk_3 (dk_at dksX5_text_0 1 rfl rfl)
theorem dX5_text_2 : decode cX5_text 2 = .ok (.putfield 1, 3) := dk_181 0 1 (dk_at dksX5_text_0 2 rfl rfl)
theorem dX5_text_5 : decode cX5_text 5 = .ok (.iload_n 1, 1) := dk_27 (dk_at dksX5_text_0 5 rfl rfl)
theorem dX5_text_6 : decode cX5_text 6 = .ok (.i2l, 1) := dk_133 (dk_at dksX5_text_0 6 rfl rfl)
theorem dX5_text_7 : decode cX5_text 7 = .ok (.lconst 0, 1) := dk_9 (dk_at dksX5_text_0 7 rfl rfl)
theorem dX5_text_8 : decode cX5_text 8 = .ok (.lconst 1, 1) := dk_10 (dk_at dksX5_text_0 8 rfl rfl)
theorem dX5_text_9 : decode cX5_text 9 = .ok (.invokestatic 152, 3) := dk_184 0 152 (dk_at dksX5_text_0 9 rfl rfl)
theorem dX5_text_12 : decode cX5_text 12 = .ok (.ifCond .ne 10, 3) := dk_154 0 10 (dk_at dksX5_text_0 12 rfl rfl)
theorem dX5_text_15 : decode cX5_text 15 = .ok (.aload_n 0, 1) := dk_42 (dk_at dksX5_text_0 15 rfl rfl)
theorem dX5_text_16 : decode cX5_text 16 = .ok (.bipush (-2), 2) := dk_16 254 (dk_at dksX5_text_0 16 rfl rfl)
theorem dX5_text_18 : decode cX5_text 18 = .ok (.invokevirtual 89, 3) := dk_182 0 89 (dk_at dksX5_text_0 18 rfl rfl)
theorem dX5_text_21 : decode cX5_text 21 = .ok (.ireturn, 1) := dk_172 (dk_at dksX5_text_0 21 rfl rfl)
theorem dX5_text_22 : decode cX5_text 22 = .ok (.iload_n 2, 1) := dk_28 (dk_at dksX5_text_0 22 rfl rfl)
theorem dX5_text_23 : decode cX5_text 23 = .ok (.i2l, 1) := dk_133 (dk_at dksX5_text_0 23 rfl rfl)
theorem dX5_text_24 : decode cX5_text 24 = .ok (.lconst 0, 1) := dk_9 (dk_at dksX5_text_1 0 rfl rfl)
theorem dX5_text_25 : decode cX5_text 25 = .ok (.aload_n 0, 1) := dk_42 (dk_at dksX5_text_1 1 rfl rfl)
theorem dX5_text_26 : decode cX5_text 26 = .ok (.getfield 86, 3) := dk_180 0 86 (dk_at dksX5_text_1 2 rfl rfl)
theorem dX5_text_29 : decode cX5_text 29 = .ok (.i2l, 1) := dk_133 (dk_at dksX5_text_1 5 rfl rfl)
theorem dX5_text_30 : decode cX5_text 30 = .ok (.invokestatic 152, 3) := dk_184 0 152 (dk_at dksX5_text_1 6 rfl rfl)
theorem dX5_text_33 : decode cX5_text 33 = .ok (.ifCond .ne 10, 3) := dk_154 0 10 (dk_at dksX5_text_1 9 rfl rfl)
theorem dX5_text_36 : decode cX5_text 36 = .ok (.aload_n 0, 1) := dk_42 (dk_at dksX5_text_1 12 rfl rfl)
theorem dX5_text_37 : decode cX5_text 37 = .ok (.bipush (-3), 2) := dk_16 253 (dk_at dksX5_text_1 13 rfl rfl)
theorem dX5_text_39 : decode cX5_text 39 = .ok (.invokevirtual 89, 3) := dk_182 0 89 (dk_at dksX5_text_1 15 rfl rfl)
theorem dX5_text_42 : decode cX5_text 42 = .ok (.ireturn, 1) := dk_172 (dk_at dksX5_text_1 18 rfl rfl)
theorem dX5_text_43 : decode cX5_text 43 = .ok (.aload_n 0, 1) := dk_42 (dk_at dksX5_text_1 19 rfl rfl)
theorem dX5_text_44 : decode cX5_text 44 = .ok (.iload_n 2, 1) := dk_28 (dk_at dksX5_text_1 20 rfl rfl)
theorem dX5_text_45 : decode cX5_text 45 = .ok (.putfield 93, 3) := dk_181 0 93 (dk_at dksX5_text_1 21 rfl rfl)
theorem dX5_text_48 : decode cX5_text 48 = .ok (.aload_n 0, 1) := dk_42 (dk_at dksX5_text_2 0 rfl rfl)
theorem dX5_text_49 : decode cX5_text 49 = .ok (.iconst 0, 1) := dk_3 (dk_at dksX5_text_2 1 rfl rfl)
theorem dX5_text_50 : decode cX5_text 50 = .ok (.putfield 86, 3) := dk_181 0 86 (dk_at dksX5_text_2 2 rfl rfl)
theorem dX5_text_53 : decode cX5_text 53 = .ok (.aload_n 0, 1) := dk_42 (dk_at dksX5_text_2 5 rfl rfl)
theorem dX5_text_54 : decode cX5_text 54 = .ok (.iconst 0, 1) := dk_3 (dk_at dksX5_text_2 6 rfl rfl)
theorem dX5_text_55 : decode cX5_text 55 = .ok (.putfield 111, 3) := dk_181 0 111 (dk_at dksX5_text_2 7 rfl rfl)
theorem dX5_text_58 : decode cX5_text 58 = .ok (.aload_n 0, 1) := dk_42 (dk_at dksX5_text_2 10 rfl rfl)
theorem dX5_text_59 : decode cX5_text 59 = .ok (.iconst 0, 1) := dk_3 (dk_at dksX5_text_2 11 rfl rfl)
theorem dX5_text_60 : decode cX5_text 60 = .ok (.putfield 133, 3) := dk_181 0 133 (dk_at dksX5_text_2 12 rfl rfl)
theorem dX5_text_63 : decode cX5_text 63 = .ok (.aload_n 0, 1) := dk_42 (dk_at dksX5_text_2 15 rfl rfl)
theorem dX5_text_64 : decode cX5_text 64 = .ok (.iconst 0, 1) := dk_3 (dk_at dksX5_text_2 16 rfl rfl)
theorem dX5_text_65 : decode cX5_text 65 = .ok (.putfield 189, 3) := dk_181 0 189 (dk_at dksX5_text_2 17 rfl rfl)
theorem dX5_text_68 : decode cX5_text 68 = .ok (.aload_n 0, 1) := dk_42 (dk_at dksX5_text_2 20 rfl rfl)
theorem dX5_text_69 : decode cX5_text 69 = .ok (.iconst 0, 1) := dk_3 (dk_at dksX5_text_2 21 rfl rfl)
theorem dX5_text_70 : decode cX5_text 70 = .ok (.putfield 176, 3) := dk_181 0 176 (dk_at dksX5_text_3 0 rfl rfl)
theorem dX5_text_73 : decode cX5_text 73 = .ok (.aload_n 0, 1) := dk_42 (dk_at dksX5_text_3 3 rfl rfl)
theorem dX5_text_74 : decode cX5_text 74 = .ok (.getfield 27, 3) := dk_180 0 27 (dk_at dksX5_text_3 4 rfl rfl)
theorem dX5_text_77 : decode cX5_text 77 = .ok (.invokestatic 82, 3) := dk_184 0 82 (dk_at dksX5_text_3 7 rfl rfl)
theorem dX5_text_80 : decode cX5_text 80 = .ok (.aload_n 0, 1) := dk_42 (dk_at dksX5_text_3 10 rfl rfl)
theorem dX5_text_81 : decode cX5_text 81 = .ok (.invokevirtual 142, 3) := dk_182 0 142 (dk_at dksX5_text_3 11 rfl rfl)
theorem dX5_text_84 : decode cX5_text 84 = .ok (.aload_n 0, 1) := dk_42 (dk_at dksX5_text_3 14 rfl rfl)
theorem dX5_text_85 : decode cX5_text 85 = .ok (.getfield 133, 3) := dk_180 0 133 (dk_at dksX5_text_3 15 rfl rfl)
theorem dX5_text_88 : decode cX5_text 88 = .ok (.ifCond .ne 30, 3) := dk_154 0 30 (dk_at dksX5_text_3 18 rfl rfl)
theorem dX5_text_91 : decode cX5_text 91 = .ok (.aload_n 0, 1) := dk_42 (dk_at dksX5_text_3 21 rfl rfl)
theorem dX5_text_92 : decode cX5_text 92 = .ok (.getfield 117, 3) := dk_180 0 117 (dk_at dksX5_text_4 0 rfl rfl)
theorem dX5_text_95 : decode cX5_text 95 = .ok (.bipush 34, 2) := dk_16 34 (dk_at dksX5_text_4 3 rfl rfl)
theorem dX5_text_97 : decode cX5_text 97 = .ok (.if_icmp .eq 21, 3) := dk_159 0 21 (dk_at dksX5_text_4 5 rfl rfl)
theorem dX5_text_100 : decode cX5_text 100 = .ok (.iload_n 1, 1) := dk_27 (dk_at dksX5_text_4 8 rfl rfl)
theorem dX5_text_101 : decode cX5_text 101 = .ok (.ifCond .ne 10, 3) := dk_154 0 10 (dk_at dksX5_text_4 9 rfl rfl)
theorem dX5_text_104 : decode cX5_text 104 = .ok (.aload_n 0, 1) := dk_42 (dk_at dksX5_text_4 12 rfl rfl)
theorem dX5_text_105 : decode cX5_text 105 = .ok (.invokevirtual 201, 3) := dk_182 0 201 (dk_at dksX5_text_4 13 rfl rfl)
theorem dX5_text_108 : decode cX5_text 108 = .ok (.goto (-24), 3) := dk_167 255 232 (dk_at dksX5_text_4 16 rfl rfl)
theorem dX5_text_111 : decode cX5_text 111 = .ok (.aload_n 0, 1) := dk_42 (dk_at dksX5_text_4 19 rfl rfl)
theorem dX5_text_112 : decode cX5_text 112 = .ok (.invokevirtual 204, 3) := dk_182 0 204 (dk_at dksX5_text_4 20 rfl rfl)
theorem dX5_text_115 : decode cX5_text 115 = .ok (.goto (-31), 3) := dk_167 255 225 (dk_at dksX5_text_5 0 rfl rfl)
theorem dX5_text_118 : decode cX5_text 118 = .ok (.aload_n 0, 1) := dk_42 (dk_at dksX5_text_5 3 rfl rfl)
theorem dX5_text_119 : decode cX5_text 119 = .ok (.aload_n 0, 1) := dk_42 (dk_at dksX5_text_5 4 rfl rfl)
theorem dX5_text_120 : decode cX5_text 120 = .ok (.getfield 133, 3) := dk_180 0 133 (dk_at dksX5_text_5 5 rfl rfl)
theorem dX5_text_123 : decode cX5_text 123 = .ok (.putfield 207, 3) := dk_181 0 207 (dk_at dksX5_text_5 8 rfl rfl)
theorem dX5_text_126 : decode cX5_text 126 = .ok (.aload_n 0, 1) := dk_42 (dk_at dksX5_text_5 11 rfl rfl)
theorem dX5_text_127 : decode cX5_text 127 = .ok (.aload_n 0, 1) := dk_42 (dk_at dksX5_text_5 12 rfl rfl)
theorem dX5_text_128 : decode cX5_text 128 = .ok (.getfield 133, 3) := dk_180 0 133 (dk_at dksX5_text_5 13 rfl rfl)
theorem dX5_text_131 : decode cX5_text 131 = .ok (.ifCond .ne 7, 3) := dk_154 0 7 (dk_at dksX5_text_5 16 rfl rfl)
theorem dX5_text_134 : decode cX5_text 134 = .ok (.iconst (-1), 1) := dk_2 (dk_at dksX5_text_5 19 rfl rfl)
theorem dX5_text_135 : decode cX5_text 135 = .ok (.goto 7, 3) := dk_167 0 7 (dk_at dksX5_text_5 20 rfl rfl)
theorem dX5_text_138 : decode cX5_text 138 = .ok (.aload_n 0, 1) := dk_42 (dk_at dksX5_text_5 23 rfl rfl)
theorem dX5_text_139 : decode cX5_text 139 = .ok (.getfield 136, 3) := dk_180 0 136 (dk_at dksX5_text_6 0 rfl rfl)
theorem dX5_text_142 : decode cX5_text 142 = .ok (.putfield 30, 3) := dk_181 0 30 (dk_at dksX5_text_6 3 rfl rfl)
theorem dX5_text_145 : decode cX5_text 145 = .ok (.aload_n 0, 1) := dk_42 (dk_at dksX5_text_6 6 rfl rfl)
theorem dX5_text_146 : decode cX5_text 146 = .ok (.getfield 133, 3) := dk_180 0 133 (dk_at dksX5_text_6 7 rfl rfl)
theorem dX5_text_149 : decode cX5_text 149 = .ok (.ifCond .eq 15, 3) := dk_153 0 15 (dk_at dksX5_text_6 10 rfl rfl)
theorem dX5_text_152 : decode cX5_text 152 = .ok (.aload_n 0, 1) := dk_42 (dk_at dksX5_text_6 13 rfl rfl)
theorem dX5_text_153 : decode cX5_text 153 = .ok (.bipush (-30), 2) := dk_16 226 (dk_at dksX5_text_6 14 rfl rfl)
theorem dX5_text_155 : decode cX5_text 155 = .ok (.aload_n 0, 1) := dk_42 (dk_at dksX5_text_6 16 rfl rfl)
theorem dX5_text_156 : decode cX5_text 156 = .ok (.getfield 133, 3) := dk_180 0 133 (dk_at dksX5_text_6 17 rfl rfl)
theorem dX5_text_159 : decode cX5_text 159 = .ok (.isub, 1) := dk_100 (dk_at dksX5_text_6 20 rfl rfl)
theorem dX5_text_160 : decode cX5_text 160 = .ok (.invokevirtual 89, 3) := dk_182 0 89 (dk_at dksX5_text_6 21 rfl rfl)
theorem dX5_text_163 : decode cX5_text 163 = .ok (.ireturn, 1) := dk_172 (dk_at dksX5_text_7 0 rfl rfl)
theorem dX5_text_164 : decode cX5_text 164 = .ok (.iload_n 1, 1) := dk_27 (dk_at dksX5_text_7 1 rfl rfl)
theorem dX5_text_165 : decode cX5_text 165 = .ok (.ifCond .ne 7, 3) := dk_154 0 7 (dk_at dksX5_text_7 2 rfl rfl)
theorem dX5_text_168 : decode cX5_text 168 = .ok (.iconst 0, 1) := dk_3 (dk_at dksX5_text_7 5 rfl rfl)
theorem dX5_text_169 : decode cX5_text 169 = .ok (.goto 5, 3) := dk_167 0 5 (dk_at dksX5_text_7 6 rfl rfl)
theorem dX5_text_172 : decode cX5_text 172 = .ok (.bipush 40, 2) := dk_16 40 (dk_at dksX5_text_7 9 rfl rfl)
theorem dX5_text_174 : decode cX5_text 174 = .ok (.istore_n 3, 1) := dk_62 (dk_at dksX5_text_7 11 rfl rfl)
theorem dX5_text_175 : decode cX5_text 175 = .ok (.iload_n 1, 1) := dk_27 (dk_at dksX5_text_7 12 rfl rfl)
theorem dX5_text_176 : decode cX5_text 176 = .ok (.ifCond .ne 8, 3) := dk_154 0 8 (dk_at dksX5_text_7 13 rfl rfl)
theorem dX5_text_179 : decode cX5_text 179 = .ok (.bipush 40, 2) := dk_16 40 (dk_at dksX5_text_7 16 rfl rfl)
theorem dX5_text_181 : decode cX5_text 181 = .ok (.goto 6, 3) := dk_167 0 6 (dk_at dksX5_text_7 18 rfl rfl)
theorem dX5_text_184 : decode cX5_text 184 = .ok (.sipush 477, 3) := dk_17 1 221 (dk_at dksX5_text_7 21 rfl rfl)
theorem dX5_text_187 : decode cX5_text 187 = .ok (.istore 4, 2) := dk_54 4 (dk_at dksX5_text_8 0 rfl rfl)
theorem dX5_text_189 : decode cX5_text 189 = .ok (.iload_n 3, 1) := dk_29 (dk_at dksX5_text_8 2 rfl rfl)
theorem dX5_text_190 : decode cX5_text 190 = .ok (.istore 5, 2) := dk_54 5 (dk_at dksX5_text_8 3 rfl rfl)
theorem dX5_text_192 : decode cX5_text 192 = .ok (.iload 5, 2) := dk_21 5 (dk_at dksX5_text_8 5 rfl rfl)
theorem dX5_text_194 : decode cX5_text 194 = .ok (.iload 4, 2) := dk_21 4 (dk_at dksX5_text_8 7 rfl rfl)
theorem dX5_text_196 : decode cX5_text 196 = .ok (.if_icmp .ge 23, 3) := dk_162 0 23 (dk_at dksX5_text_8 9 rfl rfl)
theorem dX5_text_199 : decode cX5_text 199 = .ok (.aload_n 0, 1) := dk_42 (dk_at dksX5_text_8 12 rfl rfl)
theorem dX5_text_200 : decode cX5_text 200 = .ok (.getfield 17, 3) := dk_180 0 17 (dk_at dksX5_text_8 13 rfl rfl)
theorem dX5_text_203 : decode cX5_text 203 = .ok (.iload 5, 2) := dk_21 5 (dk_at dksX5_text_8 16 rfl rfl)
theorem dX5_text_205 : decode cX5_text 205 = .ok (.aload_n 0, 1) := dk_42 (dk_at dksX5_text_8 18 rfl rfl)
theorem dX5_text_206 : decode cX5_text 206 = .ok (.getfield 27, 3) := dk_180 0 27 (dk_at dksX5_text_8 19 rfl rfl)
theorem dX5_text_209 : decode cX5_text 209 = .ok (.iload 5, 2) := dk_21 5 (dk_at dksX5_text_8 22 rfl rfl)
theorem dX5_text_211 : decode cX5_text 211 = .ok (.iaload, 1) := dk_46 (dk_at dksX5_text_9 0 rfl rfl)
theorem dX5_text_212 : decode cX5_text 212 = .ok (.iastore, 1) := dk_79 (dk_at dksX5_text_9 1 rfl rfl)
theorem dX5_text_213 : decode cX5_text 213 = .ok (.iinc 5 1, 3) := dk_132 5 1 (dk_at dksX5_text_9 2 rfl rfl)
theorem dX5_text_216 : decode cX5_text 216 = .ok (.goto (-24), 3) := dk_167 255 232 (dk_at dksX5_text_9 5 rfl rfl)
theorem dX5_text_219 : decode cX5_text 219 = .ok (.iload_n 1, 1) := dk_27 (dk_at dksX5_text_9 8 rfl rfl)
theorem dX5_text_220 : decode cX5_text 220 = .ok (.ifCond .ne 13, 3) := dk_154 0 13 (dk_at dksX5_text_9 9 rfl rfl)
theorem dX5_text_223 : decode cX5_text 223 = .ok (.aload_n 0, 1) := dk_42 (dk_at dksX5_text_9 12 rfl rfl)
theorem dX5_text_224 : decode cX5_text 224 = .ok (.getfield 17, 3) := dk_180 0 17 (dk_at dksX5_text_9 13 rfl rfl)
theorem dX5_text_227 : decode cX5_text 227 = .ok (.bipush 39, 2) := dk_16 39 (dk_at dksX5_text_9 16 rfl rfl)
theorem dX5_text_229 : decode cX5_text 229 = .ok (.iaload, 1) := dk_46 (dk_at dksX5_text_9 18 rfl rfl)
theorem dX5_text_230 : decode cX5_text 230 = .ok (.goto 10, 3) := dk_167 0 10 (dk_at dksX5_text_9 19 rfl rfl)
theorem dX5_text_233 : decode cX5_text 233 = .ok (.aload_n 0, 1) := dk_42 (dk_at dksX5_text_9 22 rfl rfl)
theorem dX5_text_234 : decode cX5_text 234 = .ok (.getfield 17, 3) := dk_180 0 17 (dk_at dksX5_text_10 0 rfl rfl)
theorem dX5_text_237 : decode cX5_text 237 = .ok (.bipush 40, 2) := dk_16 40 (dk_at dksX5_text_10 3 rfl rfl)
theorem dX5_text_239 : decode cX5_text 239 = .ok (.iaload, 1) := dk_46 (dk_at dksX5_text_10 5 rfl rfl)
theorem dX5_text_240 : decode cX5_text 240 = .ok (.ireturn, 1) := dk_172 (dk_at dksX5_text_10 6 rfl rfl)
abbrev cX5_within : ByteArray := prog_21_method_4_code
def yX5_within : MethodName := ⟨RX5, "within", "(JJJ)Z"⟩
def dkwX5_within_0 : List UInt8 := [30, 32, 148, 155, 0, 14, 30, 22, 4, 148, 157, 0, 7, 4, 167, 0, 4, 3, 172]
abbrev dktX5_within_0 : List UInt8 := dkwX5_within_0 ++ []
theorem dksX5_within_0 : cX5_within.data.toList.drop 0 = dktX5_within_0 := by decide +kernel
theorem dX5_within_0 : decode cX5_within 0 = .ok (.lload_n 0, 1) := dk_30 (dk_at dksX5_within_0 0 rfl rfl)
theorem dX5_within_1 : decode cX5_within 1 = .ok (.lload_n 2, 1) := dk_32 (dk_at dksX5_within_0 1 rfl rfl)
theorem dX5_within_2 : decode cX5_within 2 = .ok (.lcmp, 1) := dk_148 (dk_at dksX5_within_0 2 rfl rfl)
theorem dX5_within_3 : decode cX5_within 3 = .ok (.ifCond .lt 14, 3) := dk_155 0 14 (dk_at dksX5_within_0 3 rfl rfl)
theorem dX5_within_6 : decode cX5_within 6 = .ok (.lload_n 0, 1) := dk_30 (dk_at dksX5_within_0 6 rfl rfl)
theorem dX5_within_7 : decode cX5_within 7 = .ok (.lload 4, 2) := dk_22 4 (dk_at dksX5_within_0 7 rfl rfl)
theorem dX5_within_9 : decode cX5_within 9 = .ok (.lcmp, 1) := dk_148 (dk_at dksX5_within_0 9 rfl rfl)
theorem dX5_within_10 : decode cX5_within 10 = .ok (.ifCond .gt 7, 3) := dk_157 0 7 (dk_at dksX5_within_0 10 rfl rfl)
theorem dX5_within_13 : decode cX5_within 13 = .ok (.iconst 1, 1) := dk_4 (dk_at dksX5_within_0 13 rfl rfl)
theorem dX5_within_14 : decode cX5_within 14 = .ok (.goto 4, 3) := dk_167 0 4 (dk_at dksX5_within_0 14 rfl rfl)
theorem dX5_within_17 : decode cX5_within 17 = .ok (.iconst 0, 1) := dk_3 (dk_at dksX5_within_0 17 rfl rfl)
theorem dX5_within_18 : decode cX5_within 18 = .ok (.ireturn, 1) := dk_172 (dk_at dksX5_within_0 18 rfl rfl)
abbrev cX5_next : ByteArray := prog_21_method_12_code
def yX5_next : MethodName := ⟨RX5, "next", "()V"⟩
def dkwX5_next_13 : List UInt8 := [16, 33, 167, 0, 5, 16, 35, 181, 0, 117, 177]
abbrev dktX5_next_13 : List UInt8 := dkwX5_next_13 ++ []
def dkwX5_next_12 : List UInt8 := [16, 40, 160, 0, 8, 16, 32, 167, 0, 23, 42, 42, 180, 0, 108, 182, 0, 114, 16, 41, 160, 0, 8]
abbrev dktX5_next_12 : List UInt8 := dkwX5_next_12 ++ dktX5_next_13
def dkwX5_next_11 : List UInt8 := [180, 0, 108, 182, 0, 114, 16, 59, 160, 0, 8, 16, 31, 167, 0, 41, 42, 42, 180, 0, 108, 182, 0, 114]
abbrev dktX5_next_11 : List UInt8 := dkwX5_next_11 ++ dktX5_next_12
def dkwX5_next_10 : List UInt8 := [167, 0, 5, 16, 30, 181, 0, 117, 167, 0, 73, 42, 89, 180, 0, 111, 4, 96, 181, 0, 111, 42, 42, 42]
abbrev dktX5_next_10 : List UInt8 := dkwX5_next_10 ++ dktX5_next_11
def dkwX5_next_9 : List UInt8 := [181, 0, 111, 167, 255, 196, 42, 42, 180, 0, 111, 42, 180, 0, 108, 100, 6, 164, 0, 8, 16, 35]
abbrev dktX5_next_9 : List UInt8 := dkwX5_next_9 ++ dktX5_next_10
def dkwX5_next_8 : List UInt8 := [42, 42, 180, 0, 111, 182, 0, 114, 96, 16, 48, 100, 181, 0, 130, 42, 89, 180, 0, 111, 4, 96]
abbrev dktX5_next_8 : List UInt8 := dkwX5_next_8 ++ dktX5_next_9
def dkwX5_next_7 : List UInt8 := [153, 0, 52, 42, 180, 0, 111, 42, 180, 0, 108, 100, 6, 162, 0, 26, 42, 16, 10, 42, 180, 0, 130, 104]
abbrev dktX5_next_7 : List UInt8 := dkwX5_next_7 ++ dktX5_next_8
def dkwX5_next_6 : List UInt8 := [184, 0, 127, 153, 0, 98, 42, 3, 181, 0, 130, 42, 42, 180, 0, 111, 182, 0, 114, 184, 0, 127]
abbrev dktX5_next_6 : List UInt8 := dkwX5_next_6 ++ dktX5_next_7
def dkwX5_next_5 : List UInt8 := [167, 255, 232, 42, 42, 182, 0, 124, 181, 0, 117, 167, 0, 182, 42, 42, 180, 0, 108, 182, 0, 114]
abbrev dktX5_next_5 : List UInt8 := dkwX5_next_5 ++ dktX5_next_6
def dkwX5_next_4 : List UInt8 := [180, 0, 111, 182, 0, 114, 184, 0, 120, 153, 0, 16, 42, 89, 180, 0, 111, 4, 96, 181, 0, 111]
abbrev dktX5_next_4 : List UInt8 := dkwX5_next_4 ++ dktX5_next_5
def dkwX5_next_3 : List UInt8 := [181, 0, 117, 167, 0, 234, 42, 42, 180, 0, 108, 182, 0, 114, 184, 0, 120, 153, 0, 41, 42, 42]
abbrev dktX5_next_3 : List UInt8 := dkwX5_next_3 ++ dktX5_next_4
def dkwX5_next_2 : List UInt8 := [42, 42, 180, 0, 108, 181, 0, 111, 42, 180, 0, 108, 42, 180, 0, 93, 161, 0, 12, 42, 16, 34]
abbrev dktX5_next_2 : List UInt8 := dkwX5_next_2 ++ dktX5_next_3
def dkwX5_next_1 : List UInt8 := [180, 0, 108, 182, 0, 114, 16, 32, 160, 0, 16, 42, 89, 180, 0, 108, 4, 96, 181, 0, 108, 167, 255, 220]
abbrev dktX5_next_1 : List UInt8 := dkwX5_next_1 ++ dktX5_next_2
def dkwX5_next_0 : List UInt8 := [42, 42, 180, 0, 111, 181, 0, 108, 42, 42, 180, 0, 108, 182, 0, 114, 16, 10, 159, 0, 16, 42, 42]
abbrev dktX5_next_0 : List UInt8 := dkwX5_next_0 ++ dktX5_next_1
theorem dksX5_next_0 : cX5_next.data.toList.drop 0 = dktX5_next_0 := by decide +kernel
theorem dksX5_next_1 : cX5_next.data.toList.drop 23 = dktX5_next_1 := dk_seg dksX5_next_0 23 rfl rfl
theorem dksX5_next_2 : cX5_next.data.toList.drop 47 = dktX5_next_2 := dk_seg dksX5_next_1 24 rfl rfl
theorem dksX5_next_3 : cX5_next.data.toList.drop 69 = dktX5_next_3 := dk_seg dksX5_next_2 22 rfl rfl
theorem dksX5_next_4 : cX5_next.data.toList.drop 91 = dktX5_next_4 := dk_seg dksX5_next_3 22 rfl rfl
theorem dksX5_next_5 : cX5_next.data.toList.drop 113 = dktX5_next_5 := dk_seg dksX5_next_4 22 rfl rfl
theorem dksX5_next_6 : cX5_next.data.toList.drop 135 = dktX5_next_6 := dk_seg dksX5_next_5 22 rfl rfl
theorem dksX5_next_7 : cX5_next.data.toList.drop 157 = dktX5_next_7 := dk_seg dksX5_next_6 22 rfl rfl
theorem dksX5_next_8 : cX5_next.data.toList.drop 181 = dktX5_next_8 := dk_seg dksX5_next_7 24 rfl rfl
theorem dksX5_next_9 : cX5_next.data.toList.drop 203 = dktX5_next_9 := dk_seg dksX5_next_8 22 rfl rfl
theorem dksX5_next_10 : cX5_next.data.toList.drop 225 = dktX5_next_10 := dk_seg dksX5_next_9 22 rfl rfl
theorem dksX5_next_11 : cX5_next.data.toList.drop 249 = dktX5_next_11 := dk_seg dksX5_next_10 24 rfl rfl
theorem dksX5_next_12 : cX5_next.data.toList.drop 273 = dktX5_next_12 := dk_seg dksX5_next_11 24 rfl rfl
theorem dksX5_next_13 : cX5_next.data.toList.drop 296 = dktX5_next_13 := dk_seg dksX5_next_12 23 rfl rfl
theorem dX5_next_0 : decode cX5_next 0 = .ok (.aload_n 0, 1) := dk_42 (dk_at dksX5_next_0 0 rfl rfl)
theorem dX5_next_1 : decode cX5_next 1 = .ok (.aload_n 0, 1) := dk_42 (dk_at dksX5_next_0 1 rfl rfl)
theorem dX5_next_2 : decode cX5_next 2 = .ok (.getfield 111, 3) := dk_180 0 111 (dk_at dksX5_next_0 2 rfl rfl)
theorem dX5_next_5 : decode cX5_next 5 = .ok (.putfield 108, 3) := dk_181 0 108 (dk_at dksX5_next_0 5 rfl rfl)
theorem dX5_next_8 : decode cX5_next 8 = .ok (.aload_n 0, 1) := dk_42 (dk_at dksX5_next_0 8 rfl rfl)
theorem dX5_next_9 : decode cX5_next 9 = .ok (.aload_n 0, 1) := dk_42 (dk_at dksX5_next_0 9 rfl rfl)
theorem dX5_next_10 : decode cX5_next 10 = .ok (.getfield 108, 3) := dk_180 0 108 (dk_at dksX5_next_0 10 rfl rfl)
theorem dX5_next_13 : decode cX5_next 13 = .ok (.invokevirtual 114, 3) := dk_182 0 114 (dk_at dksX5_next_0 13 rfl rfl)
theorem dX5_next_16 : decode cX5_next 16 = .ok (.bipush 10, 2) := dk_16 10 (dk_at dksX5_next_0 16 rfl rfl)
theorem dX5_next_18 : decode cX5_next 18 = .ok (.if_icmp .eq 16, 3) := dk_159 0 16 (dk_at dksX5_next_0 18 rfl rfl)
theorem dX5_next_21 : decode cX5_next 21 = .ok (.aload_n 0, 1) := dk_42 (dk_at dksX5_next_0 21 rfl rfl)
theorem dX5_next_22 : decode cX5_next 22 = .ok (.aload_n 0, 1) := dk_42 (dk_at dksX5_next_0 22 rfl rfl)
theorem dX5_next_23 : decode cX5_next 23 = .ok (.getfield 108, 3) := dk_180 0 108 (dk_at dksX5_next_1 0 rfl rfl)
theorem dX5_next_26 : decode cX5_next 26 = .ok (.invokevirtual 114, 3) := dk_182 0 114 (dk_at dksX5_next_1 3 rfl rfl)
theorem dX5_next_29 : decode cX5_next 29 = .ok (.bipush 32, 2) := dk_16 32 (dk_at dksX5_next_1 6 rfl rfl)
theorem dX5_next_31 : decode cX5_next 31 = .ok (.if_icmp .ne 16, 3) := dk_160 0 16 (dk_at dksX5_next_1 8 rfl rfl)
theorem dX5_next_34 : decode cX5_next 34 = .ok (.aload_n 0, 1) := dk_42 (dk_at dksX5_next_1 11 rfl rfl)
theorem dX5_next_35 : decode cX5_next 35 = .ok (.dup, 1) := dk_89 (dk_at dksX5_next_1 12 rfl rfl)
theorem dX5_next_36 : decode cX5_next 36 = .ok (.getfield 108, 3) := dk_180 0 108 (dk_at dksX5_next_1 13 rfl rfl)
theorem dX5_next_39 : decode cX5_next 39 = .ok (.iconst 1, 1) := dk_4 (dk_at dksX5_next_1 16 rfl rfl)
theorem dX5_next_40 : decode cX5_next 40 = .ok (.iadd, 1) := dk_96 (dk_at dksX5_next_1 17 rfl rfl)
theorem dX5_next_41 : decode cX5_next 41 = .ok (.putfield 108, 3) := dk_181 0 108 (dk_at dksX5_next_1 18 rfl rfl)
theorem dX5_next_44 : decode cX5_next 44 = .ok (.goto (-36), 3) := dk_167 255 220 (dk_at dksX5_next_1 21 rfl rfl)
theorem dX5_next_47 : decode cX5_next 47 = .ok (.aload_n 0, 1) := dk_42 (dk_at dksX5_next_2 0 rfl rfl)
theorem dX5_next_48 : decode cX5_next 48 = .ok (.aload_n 0, 1) := dk_42 (dk_at dksX5_next_2 1 rfl rfl)
theorem dX5_next_49 : decode cX5_next 49 = .ok (.getfield 108, 3) := dk_180 0 108 (dk_at dksX5_next_2 2 rfl rfl)
theorem dX5_next_52 : decode cX5_next 52 = .ok (.putfield 111, 3) := dk_181 0 111 (dk_at dksX5_next_2 5 rfl rfl)
theorem dX5_next_55 : decode cX5_next 55 = .ok (.aload_n 0, 1) := dk_42 (dk_at dksX5_next_2 8 rfl rfl)
theorem dX5_next_56 : decode cX5_next 56 = .ok (.getfield 108, 3) := dk_180 0 108 (dk_at dksX5_next_2 9 rfl rfl)
theorem dX5_next_59 : decode cX5_next 59 = .ok (.aload_n 0, 1) := dk_42 (dk_at dksX5_next_2 12 rfl rfl)
theorem dX5_next_60 : decode cX5_next 60 = .ok (.getfield 93, 3) := dk_180 0 93 (dk_at dksX5_next_2 13 rfl rfl)
theorem dX5_next_63 : decode cX5_next 63 = .ok (.if_icmp .lt 12, 3) := dk_161 0 12 (dk_at dksX5_next_2 16 rfl rfl)
theorem dX5_next_66 : decode cX5_next 66 = .ok (.aload_n 0, 1) := dk_42 (dk_at dksX5_next_2 19 rfl rfl)
theorem dX5_next_67 : decode cX5_next 67 = .ok (.bipush 34, 2) := dk_16 34 (dk_at dksX5_next_2 20 rfl rfl)
theorem dX5_next_69 : decode cX5_next 69 = .ok (.putfield 117, 3) := dk_181 0 117 (dk_at dksX5_next_3 0 rfl rfl)
theorem dX5_next_72 : decode cX5_next 72 = .ok (.goto 234, 3) := dk_167 0 234 (dk_at dksX5_next_3 3 rfl rfl)
theorem dX5_next_75 : decode cX5_next 75 = .ok (.aload_n 0, 1) := dk_42 (dk_at dksX5_next_3 6 rfl rfl)
theorem dX5_next_76 : decode cX5_next 76 = .ok (.aload_n 0, 1) := dk_42 (dk_at dksX5_next_3 7 rfl rfl)
theorem dX5_next_77 : decode cX5_next 77 = .ok (.getfield 108, 3) := dk_180 0 108 (dk_at dksX5_next_3 8 rfl rfl)
theorem dX5_next_80 : decode cX5_next 80 = .ok (.invokevirtual 114, 3) := dk_182 0 114 (dk_at dksX5_next_3 11 rfl rfl)
theorem dX5_next_83 : decode cX5_next 83 = .ok (.invokestatic 120, 3) := dk_184 0 120 (dk_at dksX5_next_3 14 rfl rfl)
theorem dX5_next_86 : decode cX5_next 86 = .ok (.ifCond .eq 41, 3) := dk_153 0 41 (dk_at dksX5_next_3 17 rfl rfl)
theorem dX5_next_89 : decode cX5_next 89 = .ok (.aload_n 0, 1) := dk_42 (dk_at dksX5_next_3 20 rfl rfl)
theorem dX5_next_90 : decode cX5_next 90 = .ok (.aload_n 0, 1) := dk_42 (dk_at dksX5_next_3 21 rfl rfl)
theorem dX5_next_91 : decode cX5_next 91 = .ok (.getfield 111, 3) := dk_180 0 111 (dk_at dksX5_next_4 0 rfl rfl)
theorem dX5_next_94 : decode cX5_next 94 = .ok (.invokevirtual 114, 3) := dk_182 0 114 (dk_at dksX5_next_4 3 rfl rfl)
theorem dX5_next_97 : decode cX5_next 97 = .ok (.invokestatic 120, 3) := dk_184 0 120 (dk_at dksX5_next_4 6 rfl rfl)
theorem dX5_next_100 : decode cX5_next 100 = .ok (.ifCond .eq 16, 3) := dk_153 0 16 (dk_at dksX5_next_4 9 rfl rfl)
theorem dX5_next_103 : decode cX5_next 103 = .ok (.aload_n 0, 1) := dk_42 (dk_at dksX5_next_4 12 rfl rfl)
theorem dX5_next_104 : decode cX5_next 104 = .ok (.dup, 1) := dk_89 (dk_at dksX5_next_4 13 rfl rfl)
theorem dX5_next_105 : decode cX5_next 105 = .ok (.getfield 111, 3) := dk_180 0 111 (dk_at dksX5_next_4 14 rfl rfl)
theorem dX5_next_108 : decode cX5_next 108 = .ok (.iconst 1, 1) := dk_4 (dk_at dksX5_next_4 17 rfl rfl)
theorem dX5_next_109 : decode cX5_next 109 = .ok (.iadd, 1) := dk_96 (dk_at dksX5_next_4 18 rfl rfl)
theorem dX5_next_110 : decode cX5_next 110 = .ok (.putfield 111, 3) := dk_181 0 111 (dk_at dksX5_next_4 19 rfl rfl)
theorem dX5_next_113 : decode cX5_next 113 = .ok (.goto (-24), 3) := dk_167 255 232 (dk_at dksX5_next_5 0 rfl rfl)
theorem dX5_next_116 : decode cX5_next 116 = .ok (.aload_n 0, 1) := dk_42 (dk_at dksX5_next_5 3 rfl rfl)
theorem dX5_next_117 : decode cX5_next 117 = .ok (.aload_n 0, 1) := dk_42 (dk_at dksX5_next_5 4 rfl rfl)
theorem dX5_next_118 : decode cX5_next 118 = .ok (.invokevirtual 124, 3) := dk_182 0 124 (dk_at dksX5_next_5 5 rfl rfl)
theorem dX5_next_121 : decode cX5_next 121 = .ok (.putfield 117, 3) := dk_181 0 117 (dk_at dksX5_next_5 8 rfl rfl)
theorem dX5_next_124 : decode cX5_next 124 = .ok (.goto 182, 3) := dk_167 0 182 (dk_at dksX5_next_5 11 rfl rfl)
theorem dX5_next_127 : decode cX5_next 127 = .ok (.aload_n 0, 1) := dk_42 (dk_at dksX5_next_5 14 rfl rfl)
theorem dX5_next_128 : decode cX5_next 128 = .ok (.aload_n 0, 1) := dk_42 (dk_at dksX5_next_5 15 rfl rfl)
theorem dX5_next_129 : decode cX5_next 129 = .ok (.getfield 108, 3) := dk_180 0 108 (dk_at dksX5_next_5 16 rfl rfl)
theorem dX5_next_132 : decode cX5_next 132 = .ok (.invokevirtual 114, 3) := dk_182 0 114 (dk_at dksX5_next_5 19 rfl rfl)
theorem dX5_next_135 : decode cX5_next 135 = .ok (.invokestatic 127, 3) := dk_184 0 127 (dk_at dksX5_next_6 0 rfl rfl)
theorem dX5_next_138 : decode cX5_next 138 = .ok (.ifCond .eq 98, 3) := dk_153 0 98 (dk_at dksX5_next_6 3 rfl rfl)
theorem dX5_next_141 : decode cX5_next 141 = .ok (.aload_n 0, 1) := dk_42 (dk_at dksX5_next_6 6 rfl rfl)
theorem dX5_next_142 : decode cX5_next 142 = .ok (.iconst 0, 1) := dk_3 (dk_at dksX5_next_6 7 rfl rfl)
theorem dX5_next_143 : decode cX5_next 143 = .ok (.putfield 130, 3) := dk_181 0 130 (dk_at dksX5_next_6 8 rfl rfl)
theorem dX5_next_146 : decode cX5_next 146 = .ok (.aload_n 0, 1) := dk_42 (dk_at dksX5_next_6 11 rfl rfl)
theorem dX5_next_147 : decode cX5_next 147 = .ok (.aload_n 0, 1) := dk_42 (dk_at dksX5_next_6 12 rfl rfl)
theorem dX5_next_148 : decode cX5_next 148 = .ok (.getfield 111, 3) := dk_180 0 111 (dk_at dksX5_next_6 13 rfl rfl)
theorem dX5_next_151 : decode cX5_next 151 = .ok (.invokevirtual 114, 3) := dk_182 0 114 (dk_at dksX5_next_6 16 rfl rfl)
theorem dX5_next_154 : decode cX5_next 154 = .ok (.invokestatic 127, 3) := dk_184 0 127 (dk_at dksX5_next_6 19 rfl rfl)
theorem dX5_next_157 : decode cX5_next 157 = .ok (.ifCond .eq 52, 3) := dk_153 0 52 (dk_at dksX5_next_7 0 rfl rfl)
theorem dX5_next_160 : decode cX5_next 160 = .ok (.aload_n 0, 1) := dk_42 (dk_at dksX5_next_7 3 rfl rfl)
theorem dX5_next_161 : decode cX5_next 161 = .ok (.getfield 111, 3) := dk_180 0 111 (dk_at dksX5_next_7 4 rfl rfl)
theorem dX5_next_164 : decode cX5_next 164 = .ok (.aload_n 0, 1) := dk_42 (dk_at dksX5_next_7 7 rfl rfl)
theorem dX5_next_165 : decode cX5_next 165 = .ok (.getfield 108, 3) := dk_180 0 108 (dk_at dksX5_next_7 8 rfl rfl)
theorem dX5_next_168 : decode cX5_next 168 = .ok (.isub, 1) := dk_100 (dk_at dksX5_next_7 11 rfl rfl)
theorem dX5_next_169 : decode cX5_next 169 = .ok (.iconst 3, 1) := dk_6 (dk_at dksX5_next_7 12 rfl rfl)
theorem dX5_next_170 : decode cX5_next 170 = .ok (.if_icmp .ge 26, 3) := dk_162 0 26 (dk_at dksX5_next_7 13 rfl rfl)
theorem dX5_next_173 : decode cX5_next 173 = .ok (.aload_n 0, 1) := dk_42 (dk_at dksX5_next_7 16 rfl rfl)
theorem dX5_next_174 : decode cX5_next 174 = .ok (.bipush 10, 2) := dk_16 10 (dk_at dksX5_next_7 17 rfl rfl)
theorem dX5_next_176 : decode cX5_next 176 = .ok (.aload_n 0, 1) := dk_42 (dk_at dksX5_next_7 19 rfl rfl)
theorem dX5_next_177 : decode cX5_next 177 = .ok (.getfield 130, 3) := dk_180 0 130 (dk_at dksX5_next_7 20 rfl rfl)
theorem dX5_next_180 : decode cX5_next 180 = .ok (.imul, 1) := dk_104 (dk_at dksX5_next_7 23 rfl rfl)
theorem dX5_next_181 : decode cX5_next 181 = .ok (.aload_n 0, 1) := dk_42 (dk_at dksX5_next_8 0 rfl rfl)
theorem dX5_next_182 : decode cX5_next 182 = .ok (.aload_n 0, 1) := dk_42 (dk_at dksX5_next_8 1 rfl rfl)
theorem dX5_next_183 : decode cX5_next 183 = .ok (.getfield 111, 3) := dk_180 0 111 (dk_at dksX5_next_8 2 rfl rfl)
theorem dX5_next_186 : decode cX5_next 186 = .ok (.invokevirtual 114, 3) := dk_182 0 114 (dk_at dksX5_next_8 5 rfl rfl)
theorem dX5_next_189 : decode cX5_next 189 = .ok (.iadd, 1) := dk_96 (dk_at dksX5_next_8 8 rfl rfl)
theorem dX5_next_190 : decode cX5_next 190 = .ok (.bipush 48, 2) := dk_16 48 (dk_at dksX5_next_8 9 rfl rfl)
theorem dX5_next_192 : decode cX5_next 192 = .ok (.isub, 1) := dk_100 (dk_at dksX5_next_8 11 rfl rfl)
theorem dX5_next_193 : decode cX5_next 193 = .ok (.putfield 130, 3) := dk_181 0 130 (dk_at dksX5_next_8 12 rfl rfl)
theorem dX5_next_196 : decode cX5_next 196 = .ok (.aload_n 0, 1) := dk_42 (dk_at dksX5_next_8 15 rfl rfl)
theorem dX5_next_197 : decode cX5_next 197 = .ok (.dup, 1) := dk_89 (dk_at dksX5_next_8 16 rfl rfl)
theorem dX5_next_198 : decode cX5_next 198 = .ok (.getfield 111, 3) := dk_180 0 111 (dk_at dksX5_next_8 17 rfl rfl)
theorem dX5_next_201 : decode cX5_next 201 = .ok (.iconst 1, 1) := dk_4 (dk_at dksX5_next_8 20 rfl rfl)
theorem dX5_next_202 : decode cX5_next 202 = .ok (.iadd, 1) := dk_96 (dk_at dksX5_next_8 21 rfl rfl)
theorem dX5_next_203 : decode cX5_next 203 = .ok (.putfield 111, 3) := dk_181 0 111 (dk_at dksX5_next_9 0 rfl rfl)
theorem dX5_next_206 : decode cX5_next 206 = .ok (.goto (-60), 3) := dk_167 255 196 (dk_at dksX5_next_9 3 rfl rfl)
theorem dX5_next_209 : decode cX5_next 209 = .ok (.aload_n 0, 1) := dk_42 (dk_at dksX5_next_9 6 rfl rfl)
theorem dX5_next_210 : decode cX5_next 210 = .ok (.aload_n 0, 1) := dk_42 (dk_at dksX5_next_9 7 rfl rfl)
theorem dX5_next_211 : decode cX5_next 211 = .ok (.getfield 111, 3) := dk_180 0 111 (dk_at dksX5_next_9 8 rfl rfl)
theorem dX5_next_214 : decode cX5_next 214 = .ok (.aload_n 0, 1) := dk_42 (dk_at dksX5_next_9 11 rfl rfl)
theorem dX5_next_215 : decode cX5_next 215 = .ok (.getfield 108, 3) := dk_180 0 108 (dk_at dksX5_next_9 12 rfl rfl)
theorem dX5_next_218 : decode cX5_next 218 = .ok (.isub, 1) := dk_100 (dk_at dksX5_next_9 15 rfl rfl)
theorem dX5_next_219 : decode cX5_next 219 = .ok (.iconst 3, 1) := dk_6 (dk_at dksX5_next_9 16 rfl rfl)
theorem dX5_next_220 : decode cX5_next 220 = .ok (.if_icmp .le 8, 3) := dk_164 0 8 (dk_at dksX5_next_9 17 rfl rfl)
theorem dX5_next_223 : decode cX5_next 223 = .ok (.bipush 35, 2) := dk_16 35 (dk_at dksX5_next_9 20 rfl rfl)
theorem dX5_next_225 : decode cX5_next 225 = .ok (.goto 5, 3) := dk_167 0 5 (dk_at dksX5_next_10 0 rfl rfl)
theorem dX5_next_228 : decode cX5_next 228 = .ok (.bipush 30, 2) := dk_16 30 (dk_at dksX5_next_10 3 rfl rfl)
theorem dX5_next_230 : decode cX5_next 230 = .ok (.putfield 117, 3) := dk_181 0 117 (dk_at dksX5_next_10 5 rfl rfl)
theorem dX5_next_233 : decode cX5_next 233 = .ok (.goto 73, 3) := dk_167 0 73 (dk_at dksX5_next_10 8 rfl rfl)
theorem dX5_next_236 : decode cX5_next 236 = .ok (.aload_n 0, 1) := dk_42 (dk_at dksX5_next_10 11 rfl rfl)
theorem dX5_next_237 : decode cX5_next 237 = .ok (.dup, 1) := dk_89 (dk_at dksX5_next_10 12 rfl rfl)
theorem dX5_next_238 : decode cX5_next 238 = .ok (.getfield 111, 3) := dk_180 0 111 (dk_at dksX5_next_10 13 rfl rfl)
theorem dX5_next_241 : decode cX5_next 241 = .ok (.iconst 1, 1) := dk_4 (dk_at dksX5_next_10 16 rfl rfl)
theorem dX5_next_242 : decode cX5_next 242 = .ok (.iadd, 1) := dk_96 (dk_at dksX5_next_10 17 rfl rfl)
theorem dX5_next_243 : decode cX5_next 243 = .ok (.putfield 111, 3) := dk_181 0 111 (dk_at dksX5_next_10 18 rfl rfl)
theorem dX5_next_246 : decode cX5_next 246 = .ok (.aload_n 0, 1) := dk_42 (dk_at dksX5_next_10 21 rfl rfl)
theorem dX5_next_247 : decode cX5_next 247 = .ok (.aload_n 0, 1) := dk_42 (dk_at dksX5_next_10 22 rfl rfl)
theorem dX5_next_248 : decode cX5_next 248 = .ok (.aload_n 0, 1) := dk_42 (dk_at dksX5_next_10 23 rfl rfl)
theorem dX5_next_249 : decode cX5_next 249 = .ok (.getfield 108, 3) := dk_180 0 108 (dk_at dksX5_next_11 0 rfl rfl)
theorem dX5_next_252 : decode cX5_next 252 = .ok (.invokevirtual 114, 3) := dk_182 0 114 (dk_at dksX5_next_11 3 rfl rfl)
theorem dX5_next_255 : decode cX5_next 255 = .ok (.bipush 59, 2) := dk_16 59 (dk_at dksX5_next_11 6 rfl rfl)
theorem dX5_next_257 : decode cX5_next 257 = .ok (.if_icmp .ne 8, 3) := dk_160 0 8 (dk_at dksX5_next_11 8 rfl rfl)
theorem dX5_next_260 : decode cX5_next 260 = .ok (.bipush 31, 2) := dk_16 31 (dk_at dksX5_next_11 11 rfl rfl)
theorem dX5_next_262 : decode cX5_next 262 = .ok (.goto 41, 3) := dk_167 0 41 (dk_at dksX5_next_11 13 rfl rfl)
theorem dX5_next_265 : decode cX5_next 265 = .ok (.aload_n 0, 1) := dk_42 (dk_at dksX5_next_11 16 rfl rfl)
theorem dX5_next_266 : decode cX5_next 266 = .ok (.aload_n 0, 1) := dk_42 (dk_at dksX5_next_11 17 rfl rfl)
theorem dX5_next_267 : decode cX5_next 267 = .ok (.getfield 108, 3) := dk_180 0 108 (dk_at dksX5_next_11 18 rfl rfl)
theorem dX5_next_270 : decode cX5_next 270 = .ok (.invokevirtual 114, 3) := dk_182 0 114 (dk_at dksX5_next_11 21 rfl rfl)
theorem dX5_next_273 : decode cX5_next 273 = .ok (.bipush 40, 2) := dk_16 40 (dk_at dksX5_next_12 0 rfl rfl)
theorem dX5_next_275 : decode cX5_next 275 = .ok (.if_icmp .ne 8, 3) := dk_160 0 8 (dk_at dksX5_next_12 2 rfl rfl)
theorem dX5_next_278 : decode cX5_next 278 = .ok (.bipush 32, 2) := dk_16 32 (dk_at dksX5_next_12 5 rfl rfl)
theorem dX5_next_280 : decode cX5_next 280 = .ok (.goto 23, 3) := dk_167 0 23 (dk_at dksX5_next_12 7 rfl rfl)
theorem dX5_next_283 : decode cX5_next 283 = .ok (.aload_n 0, 1) := dk_42 (dk_at dksX5_next_12 10 rfl rfl)
theorem dX5_next_284 : decode cX5_next 284 = .ok (.aload_n 0, 1) := dk_42 (dk_at dksX5_next_12 11 rfl rfl)
theorem dX5_next_285 : decode cX5_next 285 = .ok (.getfield 108, 3) := dk_180 0 108 (dk_at dksX5_next_12 12 rfl rfl)
theorem dX5_next_288 : decode cX5_next 288 = .ok (.invokevirtual 114, 3) := dk_182 0 114 (dk_at dksX5_next_12 15 rfl rfl)
theorem dX5_next_291 : decode cX5_next 291 = .ok (.bipush 41, 2) := dk_16 41 (dk_at dksX5_next_12 18 rfl rfl)
theorem dX5_next_293 : decode cX5_next 293 = .ok (.if_icmp .ne 8, 3) := dk_160 0 8 (dk_at dksX5_next_12 20 rfl rfl)
theorem dX5_next_296 : decode cX5_next 296 = .ok (.bipush 33, 2) := dk_16 33 (dk_at dksX5_next_13 0 rfl rfl)
theorem dX5_next_298 : decode cX5_next 298 = .ok (.goto 5, 3) := dk_167 0 5 (dk_at dksX5_next_13 2 rfl rfl)
theorem dX5_next_301 : decode cX5_next 301 = .ok (.bipush 35, 2) := dk_16 35 (dk_at dksX5_next_13 5 rfl rfl)
theorem dX5_next_303 : decode cX5_next 303 = .ok (.putfield 117, 3) := dk_181 0 117 (dk_at dksX5_next_13 7 rfl rfl)
theorem dX5_next_306 : decode cX5_next 306 = .ok (.return_, 1) := dk_177 (dk_at dksX5_next_13 10 rfl rfl)
abbrev cX5_see : ByteArray := prog_21_method_8_code
def yX5_see : MethodName := ⟨RX5, "see", "(I)I"⟩
def dkwX5_see_0 : List UInt8 := [27, 42, 180, 0, 93, 162, 0, 12, 42, 180, 0, 24, 27, 46, 167, 0, 4, 2, 172]
abbrev dktX5_see_0 : List UInt8 := dkwX5_see_0 ++ []
theorem dksX5_see_0 : cX5_see.data.toList.drop 0 = dktX5_see_0 := by decide +kernel
theorem dX5_see_0 : decode cX5_see 0 = .ok (.iload_n 1, 1) := dk_27 (dk_at dksX5_see_0 0 rfl rfl)
theorem dX5_see_1 : decode cX5_see 1 = .ok (.aload_n 0, 1) := dk_42 (dk_at dksX5_see_0 1 rfl rfl)
theorem dX5_see_2 : decode cX5_see 2 = .ok (.getfield 93, 3) := dk_180 0 93 (dk_at dksX5_see_0 2 rfl rfl)
theorem dX5_see_5 : decode cX5_see 5 = .ok (.if_icmp .ge 12, 3) := dk_162 0 12 (dk_at dksX5_see_0 5 rfl rfl)
theorem dX5_see_8 : decode cX5_see 8 = .ok (.aload_n 0, 1) := dk_42 (dk_at dksX5_see_0 8 rfl rfl)
theorem dX5_see_9 : decode cX5_see 9 = .ok (.getfield 24, 3) := dk_180 0 24 (dk_at dksX5_see_0 9 rfl rfl)
theorem dX5_see_12 : decode cX5_see 12 = .ok (.iload_n 1, 1) := dk_27 (dk_at dksX5_see_0 12 rfl rfl)
theorem dX5_see_13 : decode cX5_see 13 = .ok (.iaload, 1) := dk_46 (dk_at dksX5_see_0 13 rfl rfl)
theorem dX5_see_14 : decode cX5_see 14 = .ok (.goto 4, 3) := dk_167 0 4 (dk_at dksX5_see_0 14 rfl rfl)
theorem dX5_see_17 : decode cX5_see 17 = .ok (.iconst (-1), 1) := dk_2 (dk_at dksX5_see_0 17 rfl rfl)
theorem dX5_see_18 : decode cX5_see 18 = .ok (.ireturn, 1) := dk_172 (dk_at dksX5_see_0 18 rfl rfl)
abbrev cX5_isSmall : ByteArray := prog_21_method_9_code
def yX5_isSmall : MethodName := ⟨RX5, "isSmall", "(I)Z"⟩
def dkwX5_isSmall_0 : List UInt8 := [26, 16, 97, 161, 0, 13, 26, 16, 122, 163, 0, 7, 4, 167, 0, 4, 3, 172]
abbrev dktX5_isSmall_0 : List UInt8 := dkwX5_isSmall_0 ++ []
theorem dksX5_isSmall_0 : cX5_isSmall.data.toList.drop 0 = dktX5_isSmall_0 := by decide +kernel
theorem dX5_isSmall_0 : decode cX5_isSmall 0 = .ok (.iload_n 0, 1) := dk_26 (dk_at dksX5_isSmall_0 0 rfl rfl)
theorem dX5_isSmall_1 : decode cX5_isSmall 1 = .ok (.bipush 97, 2) := dk_16 97 (dk_at dksX5_isSmall_0 1 rfl rfl)
theorem dX5_isSmall_3 : decode cX5_isSmall 3 = .ok (.if_icmp .lt 13, 3) := dk_161 0 13 (dk_at dksX5_isSmall_0 3 rfl rfl)
theorem dX5_isSmall_6 : decode cX5_isSmall 6 = .ok (.iload_n 0, 1) := dk_26 (dk_at dksX5_isSmall_0 6 rfl rfl)
theorem dX5_isSmall_7 : decode cX5_isSmall 7 = .ok (.bipush 122, 2) := dk_16 122 (dk_at dksX5_isSmall_0 7 rfl rfl)
theorem dX5_isSmall_9 : decode cX5_isSmall 9 = .ok (.if_icmp .gt 7, 3) := dk_163 0 7 (dk_at dksX5_isSmall_0 9 rfl rfl)
theorem dX5_isSmall_12 : decode cX5_isSmall 12 = .ok (.iconst 1, 1) := dk_4 (dk_at dksX5_isSmall_0 12 rfl rfl)
theorem dX5_isSmall_13 : decode cX5_isSmall 13 = .ok (.goto 4, 3) := dk_167 0 4 (dk_at dksX5_isSmall_0 13 rfl rfl)
theorem dX5_isSmall_16 : decode cX5_isSmall 16 = .ok (.iconst 0, 1) := dk_3 (dk_at dksX5_isSmall_0 16 rfl rfl)
theorem dX5_isSmall_17 : decode cX5_isSmall 17 = .ok (.ireturn, 1) := dk_172 (dk_at dksX5_isSmall_0 17 rfl rfl)
abbrev cX5_keyAt : ByteArray := prog_21_method_11_code
def yX5_keyAt : MethodName := ⟨RX5, "keyAt", "()I"⟩
def dkwX5_keyAt_5 : List UInt8 := [132, 2, 1, 132, 1, 1, 167, 255, 140, 16, 29, 172]
abbrev dktX5_keyAt_5 : List UInt8 := dkwX5_keyAt_5 ++ []
def dkwX5_keyAt_4 : List UInt8 := [160, 0, 5, 27, 172, 18, 96, 28, 182, 0, 104, 16, 32, 159, 0, 9, 132, 2, 1, 167, 255, 242]
abbrev dktX5_keyAt_4 : List UInt8 := dkwX5_keyAt_4 ++ dktX5_keyAt_5
def dkwX5_keyAt_3 : List UInt8 := [18, 96, 28, 29, 96, 182, 0, 104, 16, 32, 160, 0, 18, 42, 180, 0, 108, 29, 96, 42, 180, 0, 111]
abbrev dktX5_keyAt_3 : List UInt8 := dkwX5_keyAt_3 ++ dktX5_keyAt_4
def dkwX5_keyAt_2 : List UInt8 := [180, 0, 108, 29, 96, 46, 18, 96, 28, 29, 96, 182, 0, 104, 160, 0, 9, 132, 3, 1, 167, 255, 205]
abbrev dktX5_keyAt_2 : List UInt8 := dkwX5_keyAt_2 ++ dktX5_keyAt_3
def dkwX5_keyAt_1 : List UInt8 := [16, 32, 159, 0, 44, 42, 180, 0, 108, 29, 96, 42, 180, 0, 111, 162, 0, 31, 42, 180, 0, 24, 42]
abbrev dktX5_keyAt_1 : List UInt8 := dkwX5_keyAt_1 ++ dktX5_keyAt_2
def dkwX5_keyAt_0 : List UInt8 := [3, 60, 4, 61, 28, 18, 96, 182, 0, 98, 162, 0, 113, 3, 62, 18, 96, 28, 29, 96, 182, 0, 104]
abbrev dktX5_keyAt_0 : List UInt8 := dkwX5_keyAt_0 ++ dktX5_keyAt_1
theorem dksX5_keyAt_0 : cX5_keyAt.data.toList.drop 0 = dktX5_keyAt_0 := by decide +kernel
theorem dksX5_keyAt_1 : cX5_keyAt.data.toList.drop 23 = dktX5_keyAt_1 := dk_seg dksX5_keyAt_0 23 rfl rfl
theorem dksX5_keyAt_2 : cX5_keyAt.data.toList.drop 46 = dktX5_keyAt_2 := dk_seg dksX5_keyAt_1 23 rfl rfl
theorem dksX5_keyAt_3 : cX5_keyAt.data.toList.drop 69 = dktX5_keyAt_3 := dk_seg dksX5_keyAt_2 23 rfl rfl
theorem dksX5_keyAt_4 : cX5_keyAt.data.toList.drop 92 = dktX5_keyAt_4 := dk_seg dksX5_keyAt_3 23 rfl rfl
theorem dksX5_keyAt_5 : cX5_keyAt.data.toList.drop 114 = dktX5_keyAt_5 := dk_seg dksX5_keyAt_4 22 rfl rfl
theorem dX5_keyAt_0 : decode cX5_keyAt 0 = .ok (.iconst 0, 1) := dk_3 (dk_at dksX5_keyAt_0 0 rfl rfl)
theorem dX5_keyAt_1 : decode cX5_keyAt 1 = .ok (.istore_n 1, 1) := dk_60 (dk_at dksX5_keyAt_0 1 rfl rfl)
theorem dX5_keyAt_2 : decode cX5_keyAt 2 = .ok (.iconst 1, 1) := dk_4 (dk_at dksX5_keyAt_0 2 rfl rfl)
theorem dX5_keyAt_3 : decode cX5_keyAt 3 = .ok (.istore_n 2, 1) := dk_61 (dk_at dksX5_keyAt_0 3 rfl rfl)
theorem dX5_keyAt_4 : decode cX5_keyAt 4 = .ok (.iload_n 2, 1) := dk_28 (dk_at dksX5_keyAt_0 4 rfl rfl)
theorem dX5_keyAt_5 : decode cX5_keyAt 5 = .ok (.ldc 96, 2) := dk_18 96 (dk_at dksX5_keyAt_0 5 rfl rfl)
theorem dX5_keyAt_7 : decode cX5_keyAt 7 = .ok (.invokevirtual 98, 3) := dk_182 0 98 (dk_at dksX5_keyAt_0 7 rfl rfl)
theorem dX5_keyAt_10 : decode cX5_keyAt 10 = .ok (.if_icmp .ge 113, 3) := dk_162 0 113 (dk_at dksX5_keyAt_0 10 rfl rfl)
theorem dX5_keyAt_13 : decode cX5_keyAt 13 = .ok (.iconst 0, 1) := dk_3 (dk_at dksX5_keyAt_0 13 rfl rfl)
theorem dX5_keyAt_14 : decode cX5_keyAt 14 = .ok (.istore_n 3, 1) := dk_62 (dk_at dksX5_keyAt_0 14 rfl rfl)
theorem dX5_keyAt_15 : decode cX5_keyAt 15 = .ok (.ldc 96, 2) := dk_18 96 (dk_at dksX5_keyAt_0 15 rfl rfl)
theorem dX5_keyAt_17 : decode cX5_keyAt 17 = .ok (.iload_n 2, 1) := dk_28 (dk_at dksX5_keyAt_0 17 rfl rfl)
theorem dX5_keyAt_18 : decode cX5_keyAt 18 = .ok (.iload_n 3, 1) := dk_29 (dk_at dksX5_keyAt_0 18 rfl rfl)
theorem dX5_keyAt_19 : decode cX5_keyAt 19 = .ok (.iadd, 1) := dk_96 (dk_at dksX5_keyAt_0 19 rfl rfl)
theorem dX5_keyAt_20 : decode cX5_keyAt 20 = .ok (.invokevirtual 104, 3) := dk_182 0 104 (dk_at dksX5_keyAt_0 20 rfl rfl)
theorem dX5_keyAt_23 : decode cX5_keyAt 23 = .ok (.bipush 32, 2) := dk_16 32 (dk_at dksX5_keyAt_1 0 rfl rfl)
theorem dX5_keyAt_25 : decode cX5_keyAt 25 = .ok (.if_icmp .eq 44, 3) := dk_159 0 44 (dk_at dksX5_keyAt_1 2 rfl rfl)
theorem dX5_keyAt_28 : decode cX5_keyAt 28 = .ok (.aload_n 0, 1) := dk_42 (dk_at dksX5_keyAt_1 5 rfl rfl)
theorem dX5_keyAt_29 : decode cX5_keyAt 29 = .ok (.getfield 108, 3) := dk_180 0 108 (dk_at dksX5_keyAt_1 6 rfl rfl)
theorem dX5_keyAt_32 : decode cX5_keyAt 32 = .ok (.iload_n 3, 1) := dk_29 (dk_at dksX5_keyAt_1 9 rfl rfl)
theorem dX5_keyAt_33 : decode cX5_keyAt 33 = .ok (.iadd, 1) := dk_96 (dk_at dksX5_keyAt_1 10 rfl rfl)
theorem dX5_keyAt_34 : decode cX5_keyAt 34 = .ok (.aload_n 0, 1) := dk_42 (dk_at dksX5_keyAt_1 11 rfl rfl)
theorem dX5_keyAt_35 : decode cX5_keyAt 35 = .ok (.getfield 111, 3) := dk_180 0 111 (dk_at dksX5_keyAt_1 12 rfl rfl)
theorem dX5_keyAt_38 : decode cX5_keyAt 38 = .ok (.if_icmp .ge 31, 3) := dk_162 0 31 (dk_at dksX5_keyAt_1 15 rfl rfl)
theorem dX5_keyAt_41 : decode cX5_keyAt 41 = .ok (.aload_n 0, 1) := dk_42 (dk_at dksX5_keyAt_1 18 rfl rfl)
theorem dX5_keyAt_42 : decode cX5_keyAt 42 = .ok (.getfield 24, 3) := dk_180 0 24 (dk_at dksX5_keyAt_1 19 rfl rfl)
theorem dX5_keyAt_45 : decode cX5_keyAt 45 = .ok (.aload_n 0, 1) := dk_42 (dk_at dksX5_keyAt_1 22 rfl rfl)
theorem dX5_keyAt_46 : decode cX5_keyAt 46 = .ok (.getfield 108, 3) := dk_180 0 108 (dk_at dksX5_keyAt_2 0 rfl rfl)
theorem dX5_keyAt_49 : decode cX5_keyAt 49 = .ok (.iload_n 3, 1) := dk_29 (dk_at dksX5_keyAt_2 3 rfl rfl)
theorem dX5_keyAt_50 : decode cX5_keyAt 50 = .ok (.iadd, 1) := dk_96 (dk_at dksX5_keyAt_2 4 rfl rfl)
theorem dX5_keyAt_51 : decode cX5_keyAt 51 = .ok (.iaload, 1) := dk_46 (dk_at dksX5_keyAt_2 5 rfl rfl)
theorem dX5_keyAt_52 : decode cX5_keyAt 52 = .ok (.ldc 96, 2) := dk_18 96 (dk_at dksX5_keyAt_2 6 rfl rfl)
theorem dX5_keyAt_54 : decode cX5_keyAt 54 = .ok (.iload_n 2, 1) := dk_28 (dk_at dksX5_keyAt_2 8 rfl rfl)
theorem dX5_keyAt_55 : decode cX5_keyAt 55 = .ok (.iload_n 3, 1) := dk_29 (dk_at dksX5_keyAt_2 9 rfl rfl)
theorem dX5_keyAt_56 : decode cX5_keyAt 56 = .ok (.iadd, 1) := dk_96 (dk_at dksX5_keyAt_2 10 rfl rfl)
theorem dX5_keyAt_57 : decode cX5_keyAt 57 = .ok (.invokevirtual 104, 3) := dk_182 0 104 (dk_at dksX5_keyAt_2 11 rfl rfl)
theorem dX5_keyAt_60 : decode cX5_keyAt 60 = .ok (.if_icmp .ne 9, 3) := dk_160 0 9 (dk_at dksX5_keyAt_2 14 rfl rfl)
theorem dX5_keyAt_63 : decode cX5_keyAt 63 = .ok (.iinc 3 1, 3) := dk_132 3 1 (dk_at dksX5_keyAt_2 17 rfl rfl)
theorem dX5_keyAt_66 : decode cX5_keyAt 66 = .ok (.goto (-51), 3) := dk_167 255 205 (dk_at dksX5_keyAt_2 20 rfl rfl)
theorem dX5_keyAt_69 : decode cX5_keyAt 69 = .ok (.ldc 96, 2) := dk_18 96 (dk_at dksX5_keyAt_3 0 rfl rfl)
theorem dX5_keyAt_71 : decode cX5_keyAt 71 = .ok (.iload_n 2, 1) := dk_28 (dk_at dksX5_keyAt_3 2 rfl rfl)
theorem dX5_keyAt_72 : decode cX5_keyAt 72 = .ok (.iload_n 3, 1) := dk_29 (dk_at dksX5_keyAt_3 3 rfl rfl)
theorem dX5_keyAt_73 : decode cX5_keyAt 73 = .ok (.iadd, 1) := dk_96 (dk_at dksX5_keyAt_3 4 rfl rfl)
theorem dX5_keyAt_74 : decode cX5_keyAt 74 = .ok (.invokevirtual 104, 3) := dk_182 0 104 (dk_at dksX5_keyAt_3 5 rfl rfl)
theorem dX5_keyAt_77 : decode cX5_keyAt 77 = .ok (.bipush 32, 2) := dk_16 32 (dk_at dksX5_keyAt_3 8 rfl rfl)
theorem dX5_keyAt_79 : decode cX5_keyAt 79 = .ok (.if_icmp .ne 18, 3) := dk_160 0 18 (dk_at dksX5_keyAt_3 10 rfl rfl)
theorem dX5_keyAt_82 : decode cX5_keyAt 82 = .ok (.aload_n 0, 1) := dk_42 (dk_at dksX5_keyAt_3 13 rfl rfl)
theorem dX5_keyAt_83 : decode cX5_keyAt 83 = .ok (.getfield 108, 3) := dk_180 0 108 (dk_at dksX5_keyAt_3 14 rfl rfl)
theorem dX5_keyAt_86 : decode cX5_keyAt 86 = .ok (.iload_n 3, 1) := dk_29 (dk_at dksX5_keyAt_3 17 rfl rfl)
theorem dX5_keyAt_87 : decode cX5_keyAt 87 = .ok (.iadd, 1) := dk_96 (dk_at dksX5_keyAt_3 18 rfl rfl)
theorem dX5_keyAt_88 : decode cX5_keyAt 88 = .ok (.aload_n 0, 1) := dk_42 (dk_at dksX5_keyAt_3 19 rfl rfl)
theorem dX5_keyAt_89 : decode cX5_keyAt 89 = .ok (.getfield 111, 3) := dk_180 0 111 (dk_at dksX5_keyAt_3 20 rfl rfl)
theorem dX5_keyAt_92 : decode cX5_keyAt 92 = .ok (.if_icmp .ne 5, 3) := dk_160 0 5 (dk_at dksX5_keyAt_4 0 rfl rfl)
theorem dX5_keyAt_95 : decode cX5_keyAt 95 = .ok (.iload_n 1, 1) := dk_27 (dk_at dksX5_keyAt_4 3 rfl rfl)
theorem dX5_keyAt_96 : decode cX5_keyAt 96 = .ok (.ireturn, 1) := dk_172 (dk_at dksX5_keyAt_4 4 rfl rfl)
theorem dX5_keyAt_97 : decode cX5_keyAt 97 = .ok (.ldc 96, 2) := dk_18 96 (dk_at dksX5_keyAt_4 5 rfl rfl)
theorem dX5_keyAt_99 : decode cX5_keyAt 99 = .ok (.iload_n 2, 1) := dk_28 (dk_at dksX5_keyAt_4 7 rfl rfl)
theorem dX5_keyAt_100 : decode cX5_keyAt 100 = .ok (.invokevirtual 104, 3) := dk_182 0 104 (dk_at dksX5_keyAt_4 8 rfl rfl)
theorem dX5_keyAt_103 : decode cX5_keyAt 103 = .ok (.bipush 32, 2) := dk_16 32 (dk_at dksX5_keyAt_4 11 rfl rfl)
theorem dX5_keyAt_105 : decode cX5_keyAt 105 = .ok (.if_icmp .eq 9, 3) := dk_159 0 9 (dk_at dksX5_keyAt_4 13 rfl rfl)
theorem dX5_keyAt_108 : decode cX5_keyAt 108 = .ok (.iinc 2 1, 3) := dk_132 2 1 (dk_at dksX5_keyAt_4 16 rfl rfl)
theorem dX5_keyAt_111 : decode cX5_keyAt 111 = .ok (.goto (-14), 3) := dk_167 255 242 (dk_at dksX5_keyAt_4 19 rfl rfl)
theorem dX5_keyAt_114 : decode cX5_keyAt 114 = .ok (.iinc 2 1, 3) := dk_132 2 1 (dk_at dksX5_keyAt_5 0 rfl rfl)
theorem dX5_keyAt_117 : decode cX5_keyAt 117 = .ok (.iinc 1 1, 3) := dk_132 1 1 (dk_at dksX5_keyAt_5 3 rfl rfl)
theorem dX5_keyAt_120 : decode cX5_keyAt 120 = .ok (.goto (-116), 3) := dk_167 255 140 (dk_at dksX5_keyAt_5 6 rfl rfl)
theorem dX5_keyAt_123 : decode cX5_keyAt 123 = .ok (.bipush 29, 2) := dk_16 29 (dk_at dksX5_keyAt_5 9 rfl rfl)
theorem dX5_keyAt_125 : decode cX5_keyAt 125 = .ok (.ireturn, 1) := dk_172 (dk_at dksX5_keyAt_5 11 rfl rfl)
abbrev cX5_isDigit : ByteArray := prog_21_method_10_code
def yX5_isDigit : MethodName := ⟨RX5, "isDigit", "(I)Z"⟩
def dkwX5_isDigit_0 : List UInt8 := [26, 16, 48, 161, 0, 13, 26, 16, 57, 163, 0, 7, 4, 167, 0, 4, 3, 172]
abbrev dktX5_isDigit_0 : List UInt8 := dkwX5_isDigit_0 ++ []
theorem dksX5_isDigit_0 : cX5_isDigit.data.toList.drop 0 = dktX5_isDigit_0 := by decide +kernel
theorem dX5_isDigit_0 : decode cX5_isDigit 0 = .ok (.iload_n 0, 1) := dk_26 (dk_at dksX5_isDigit_0 0 rfl rfl)
theorem dX5_isDigit_1 : decode cX5_isDigit 1 = .ok (.bipush 48, 2) := dk_16 48 (dk_at dksX5_isDigit_0 1 rfl rfl)
theorem dX5_isDigit_3 : decode cX5_isDigit 3 = .ok (.if_icmp .lt 13, 3) := dk_161 0 13 (dk_at dksX5_isDigit_0 3 rfl rfl)
theorem dX5_isDigit_6 : decode cX5_isDigit 6 = .ok (.iload_n 0, 1) := dk_26 (dk_at dksX5_isDigit_0 6 rfl rfl)
theorem dX5_isDigit_7 : decode cX5_isDigit 7 = .ok (.bipush 57, 2) := dk_16 57 (dk_at dksX5_isDigit_0 7 rfl rfl)
theorem dX5_isDigit_9 : decode cX5_isDigit 9 = .ok (.if_icmp .gt 7, 3) := dk_163 0 7 (dk_at dksX5_isDigit_0 9 rfl rfl)
theorem dX5_isDigit_12 : decode cX5_isDigit 12 = .ok (.iconst 1, 1) := dk_4 (dk_at dksX5_isDigit_0 12 rfl rfl)
theorem dX5_isDigit_13 : decode cX5_isDigit 13 = .ok (.goto 4, 3) := dk_167 0 4 (dk_at dksX5_isDigit_0 13 rfl rfl)
theorem dX5_isDigit_16 : decode cX5_isDigit 16 = .ok (.iconst 0, 1) := dk_3 (dk_at dksX5_isDigit_0 16 rfl rfl)
theorem dX5_isDigit_17 : decode cX5_isDigit 17 = .ok (.ireturn, 1) := dk_172 (dk_at dksX5_isDigit_0 17 rfl rfl)
abbrev cX5_readLine : ByteArray := prog_21_method_20_code
def yX5_readLine : MethodName := ⟨RX5, "readLine", "()V"⟩
def dkwX5_readLine_7 : List UInt8 := [46, 4, 96, 79, 177]
abbrev dktX5_readLine_7 : List UInt8 := dkwX5_readLine_7 ++ []
def dkwX5_readLine_6 : List UInt8 := [182, 0, 156, 79, 167, 0, 7, 42, 182, 0, 169, 42, 16, 31, 182, 0, 160, 42, 180, 0, 27, 16, 39, 92]
abbrev dktX5_readLine_6 : List UInt8 := dkwX5_readLine_6 ++ dktX5_readLine_7
def dkwX5_readLine_5 : List UInt8 := [167, 0, 34, 42, 16, 16, 182, 0, 145, 153, 0, 21, 42, 180, 0, 27, 16, 38, 42, 4, 17, 0, 200]
abbrev dktX5_readLine_5 : List UInt8 := dkwX5_readLine_5 ++ dktX5_readLine_6
def dkwX5_readLine_4 : List UInt8 := [16, 15, 182, 0, 145, 153, 0, 20, 42, 180, 0, 27, 16, 37, 42, 3, 16, 60, 182, 0, 156, 79]
abbrev dktX5_readLine_4 : List UInt8 := dkwX5_readLine_4 ++ dktX5_readLine_5
def dkwX5_readLine_3 : List UInt8 := [182, 0, 145, 153, 0, 20, 42, 180, 0, 27, 16, 36, 42, 3, 16, 20, 182, 0, 156, 79, 167, 0, 60, 42]
abbrev dktX5_readLine_3 : List UInt8 := dkwX5_readLine_3 ++ dktX5_readLine_4
def dkwX5_readLine_2 : List UInt8 := [153, 0, 20, 42, 180, 0, 27, 16, 35, 42, 3, 16, 30, 182, 0, 156, 79, 167, 0, 86, 42, 16, 14]
abbrev dktX5_readLine_2 : List UInt8 := dkwX5_readLine_2 ++ dktX5_readLine_3
def dkwX5_readLine_1 : List UInt8 := [167, 0, 127, 42, 4, 182, 0, 139, 153, 0, 10, 42, 182, 0, 166, 167, 0, 112, 42, 16, 13, 182, 0, 145]
abbrev dktX5_readLine_1 : List UInt8 := dkwX5_readLine_1 ++ dktX5_readLine_2
def dkwX5_readLine_0 : List UInt8 := [42, 3, 182, 0, 145, 153, 0, 21, 42, 180, 0, 27, 3, 42, 42, 182, 0, 163, 7, 182, 0, 156, 79]
abbrev dktX5_readLine_0 : List UInt8 := dkwX5_readLine_0 ++ dktX5_readLine_1
theorem dksX5_readLine_0 : cX5_readLine.data.toList.drop 0 = dktX5_readLine_0 := by decide +kernel
theorem dksX5_readLine_1 : cX5_readLine.data.toList.drop 23 = dktX5_readLine_1 := dk_seg dksX5_readLine_0 23 rfl rfl
theorem dksX5_readLine_2 : cX5_readLine.data.toList.drop 47 = dktX5_readLine_2 := dk_seg dksX5_readLine_1 24 rfl rfl
theorem dksX5_readLine_3 : cX5_readLine.data.toList.drop 70 = dktX5_readLine_3 := dk_seg dksX5_readLine_2 23 rfl rfl
theorem dksX5_readLine_4 : cX5_readLine.data.toList.drop 94 = dktX5_readLine_4 := dk_seg dksX5_readLine_3 24 rfl rfl
theorem dksX5_readLine_5 : cX5_readLine.data.toList.drop 116 = dktX5_readLine_5 := dk_seg dksX5_readLine_4 22 rfl rfl
theorem dksX5_readLine_6 : cX5_readLine.data.toList.drop 139 = dktX5_readLine_6 := dk_seg dksX5_readLine_5 23 rfl rfl
theorem dksX5_readLine_7 : cX5_readLine.data.toList.drop 163 = dktX5_readLine_7 := dk_seg dksX5_readLine_6 24 rfl rfl
theorem dX5_readLine_0 : decode cX5_readLine 0 = .ok (.aload_n 0, 1) := dk_42 (dk_at dksX5_readLine_0 0 rfl rfl)
theorem dX5_readLine_1 : decode cX5_readLine 1 = .ok (.iconst 0, 1) := dk_3 (dk_at dksX5_readLine_0 1 rfl rfl)
theorem dX5_readLine_2 : decode cX5_readLine 2 = .ok (.invokevirtual 145, 3) := dk_182 0 145 (dk_at dksX5_readLine_0 2 rfl rfl)
theorem dX5_readLine_5 : decode cX5_readLine 5 = .ok (.ifCond .eq 21, 3) := dk_153 0 21 (dk_at dksX5_readLine_0 5 rfl rfl)
theorem dX5_readLine_8 : decode cX5_readLine 8 = .ok (.aload_n 0, 1) := dk_42 (dk_at dksX5_readLine_0 8 rfl rfl)
theorem dX5_readLine_9 : decode cX5_readLine 9 = .ok (.getfield 27, 3) := dk_180 0 27 (dk_at dksX5_readLine_0 9 rfl rfl)
theorem dX5_readLine_12 : decode cX5_readLine 12 = .ok (.iconst 0, 1) := dk_3 (dk_at dksX5_readLine_0 12 rfl rfl)
theorem dX5_readLine_13 : decode cX5_readLine 13 = .ok (.aload_n 0, 1) := dk_42 (dk_at dksX5_readLine_0 13 rfl rfl)
theorem dX5_readLine_14 : decode cX5_readLine 14 = .ok (.aload_n 0, 1) := dk_42 (dk_at dksX5_readLine_0 14 rfl rfl)
theorem dX5_readLine_15 : decode cX5_readLine 15 = .ok (.invokevirtual 163, 3) := dk_182 0 163 (dk_at dksX5_readLine_0 15 rfl rfl)
theorem dX5_readLine_18 : decode cX5_readLine 18 = .ok (.iconst 4, 1) := dk_7 (dk_at dksX5_readLine_0 18 rfl rfl)
theorem dX5_readLine_19 : decode cX5_readLine 19 = .ok (.invokevirtual 156, 3) := dk_182 0 156 (dk_at dksX5_readLine_0 19 rfl rfl)
theorem dX5_readLine_22 : decode cX5_readLine 22 = .ok (.iastore, 1) := dk_79 (dk_at dksX5_readLine_0 22 rfl rfl)
theorem dX5_readLine_23 : decode cX5_readLine 23 = .ok (.goto 127, 3) := dk_167 0 127 (dk_at dksX5_readLine_1 0 rfl rfl)
theorem dX5_readLine_26 : decode cX5_readLine 26 = .ok (.aload_n 0, 1) := dk_42 (dk_at dksX5_readLine_1 3 rfl rfl)
theorem dX5_readLine_27 : decode cX5_readLine 27 = .ok (.iconst 1, 1) := dk_4 (dk_at dksX5_readLine_1 4 rfl rfl)
theorem dX5_readLine_28 : decode cX5_readLine 28 = .ok (.invokevirtual 139, 3) := dk_182 0 139 (dk_at dksX5_readLine_1 5 rfl rfl)
theorem dX5_readLine_31 : decode cX5_readLine 31 = .ok (.ifCond .eq 10, 3) := dk_153 0 10 (dk_at dksX5_readLine_1 8 rfl rfl)
theorem dX5_readLine_34 : decode cX5_readLine 34 = .ok (.aload_n 0, 1) := dk_42 (dk_at dksX5_readLine_1 11 rfl rfl)
theorem dX5_readLine_35 : decode cX5_readLine 35 = .ok (.invokevirtual 166, 3) := dk_182 0 166 (dk_at dksX5_readLine_1 12 rfl rfl)
theorem dX5_readLine_38 : decode cX5_readLine 38 = .ok (.goto 112, 3) := dk_167 0 112 (dk_at dksX5_readLine_1 15 rfl rfl)
theorem dX5_readLine_41 : decode cX5_readLine 41 = .ok (.aload_n 0, 1) := dk_42 (dk_at dksX5_readLine_1 18 rfl rfl)
theorem dX5_readLine_42 : decode cX5_readLine 42 = .ok (.bipush 13, 2) := dk_16 13 (dk_at dksX5_readLine_1 19 rfl rfl)
theorem dX5_readLine_44 : decode cX5_readLine 44 = .ok (.invokevirtual 145, 3) := dk_182 0 145 (dk_at dksX5_readLine_1 21 rfl rfl)
theorem dX5_readLine_47 : decode cX5_readLine 47 = .ok (.ifCond .eq 20, 3) := dk_153 0 20 (dk_at dksX5_readLine_2 0 rfl rfl)
theorem dX5_readLine_50 : decode cX5_readLine 50 = .ok (.aload_n 0, 1) := dk_42 (dk_at dksX5_readLine_2 3 rfl rfl)
theorem dX5_readLine_51 : decode cX5_readLine 51 = .ok (.getfield 27, 3) := dk_180 0 27 (dk_at dksX5_readLine_2 4 rfl rfl)
theorem dX5_readLine_54 : decode cX5_readLine 54 = .ok (.bipush 35, 2) := dk_16 35 (dk_at dksX5_readLine_2 7 rfl rfl)
theorem dX5_readLine_56 : decode cX5_readLine 56 = .ok (.aload_n 0, 1) := dk_42 (dk_at dksX5_readLine_2 9 rfl rfl)
theorem dX5_readLine_57 : decode cX5_readLine 57 = .ok (.iconst 0, 1) := dk_3 (dk_at dksX5_readLine_2 10 rfl rfl)
theorem dX5_readLine_58 : decode cX5_readLine 58 = .ok (.bipush 30, 2) := dk_16 30 (dk_at dksX5_readLine_2 11 rfl rfl)
theorem dX5_readLine_60 : decode cX5_readLine 60 = .ok (.invokevirtual 156, 3) := dk_182 0 156 (dk_at dksX5_readLine_2 13 rfl rfl)
theorem dX5_readLine_63 : decode cX5_readLine 63 = .ok (.iastore, 1) := dk_79 (dk_at dksX5_readLine_2 16 rfl rfl)
theorem dX5_readLine_64 : decode cX5_readLine 64 = .ok (.goto 86, 3) := dk_167 0 86 (dk_at dksX5_readLine_2 17 rfl rfl)
theorem dX5_readLine_67 : decode cX5_readLine 67 = .ok (.aload_n 0, 1) := dk_42 (dk_at dksX5_readLine_2 20 rfl rfl)
theorem dX5_readLine_68 : decode cX5_readLine 68 = .ok (.bipush 14, 2) := dk_16 14 (dk_at dksX5_readLine_2 21 rfl rfl)
theorem dX5_readLine_70 : decode cX5_readLine 70 = .ok (.invokevirtual 145, 3) := dk_182 0 145 (dk_at dksX5_readLine_3 0 rfl rfl)
theorem dX5_readLine_73 : decode cX5_readLine 73 = .ok (.ifCond .eq 20, 3) := dk_153 0 20 (dk_at dksX5_readLine_3 3 rfl rfl)
theorem dX5_readLine_76 : decode cX5_readLine 76 = .ok (.aload_n 0, 1) := dk_42 (dk_at dksX5_readLine_3 6 rfl rfl)
theorem dX5_readLine_77 : decode cX5_readLine 77 = .ok (.getfield 27, 3) := dk_180 0 27 (dk_at dksX5_readLine_3 7 rfl rfl)
theorem dX5_readLine_80 : decode cX5_readLine 80 = .ok (.bipush 36, 2) := dk_16 36 (dk_at dksX5_readLine_3 10 rfl rfl)
theorem dX5_readLine_82 : decode cX5_readLine 82 = .ok (.aload_n 0, 1) := dk_42 (dk_at dksX5_readLine_3 12 rfl rfl)
theorem dX5_readLine_83 : decode cX5_readLine 83 = .ok (.iconst 0, 1) := dk_3 (dk_at dksX5_readLine_3 13 rfl rfl)
theorem dX5_readLine_84 : decode cX5_readLine 84 = .ok (.bipush 20, 2) := dk_16 20 (dk_at dksX5_readLine_3 14 rfl rfl)
theorem dX5_readLine_86 : decode cX5_readLine 86 = .ok (.invokevirtual 156, 3) := dk_182 0 156 (dk_at dksX5_readLine_3 16 rfl rfl)
theorem dX5_readLine_89 : decode cX5_readLine 89 = .ok (.iastore, 1) := dk_79 (dk_at dksX5_readLine_3 19 rfl rfl)
theorem dX5_readLine_90 : decode cX5_readLine 90 = .ok (.goto 60, 3) := dk_167 0 60 (dk_at dksX5_readLine_3 20 rfl rfl)
theorem dX5_readLine_93 : decode cX5_readLine 93 = .ok (.aload_n 0, 1) := dk_42 (dk_at dksX5_readLine_3 23 rfl rfl)
theorem dX5_readLine_94 : decode cX5_readLine 94 = .ok (.bipush 15, 2) := dk_16 15 (dk_at dksX5_readLine_4 0 rfl rfl)
theorem dX5_readLine_96 : decode cX5_readLine 96 = .ok (.invokevirtual 145, 3) := dk_182 0 145 (dk_at dksX5_readLine_4 2 rfl rfl)
theorem dX5_readLine_99 : decode cX5_readLine 99 = .ok (.ifCond .eq 20, 3) := dk_153 0 20 (dk_at dksX5_readLine_4 5 rfl rfl)
theorem dX5_readLine_102 : decode cX5_readLine 102 = .ok (.aload_n 0, 1) := dk_42 (dk_at dksX5_readLine_4 8 rfl rfl)
theorem dX5_readLine_103 : decode cX5_readLine 103 = .ok (.getfield 27, 3) := dk_180 0 27 (dk_at dksX5_readLine_4 9 rfl rfl)
theorem dX5_readLine_106 : decode cX5_readLine 106 = .ok (.bipush 37, 2) := dk_16 37 (dk_at dksX5_readLine_4 12 rfl rfl)
theorem dX5_readLine_108 : decode cX5_readLine 108 = .ok (.aload_n 0, 1) := dk_42 (dk_at dksX5_readLine_4 14 rfl rfl)
theorem dX5_readLine_109 : decode cX5_readLine 109 = .ok (.iconst 0, 1) := dk_3 (dk_at dksX5_readLine_4 15 rfl rfl)
theorem dX5_readLine_110 : decode cX5_readLine 110 = .ok (.bipush 60, 2) := dk_16 60 (dk_at dksX5_readLine_4 16 rfl rfl)
theorem dX5_readLine_112 : decode cX5_readLine 112 = .ok (.invokevirtual 156, 3) := dk_182 0 156 (dk_at dksX5_readLine_4 18 rfl rfl)
theorem dX5_readLine_115 : decode cX5_readLine 115 = .ok (.iastore, 1) := dk_79 (dk_at dksX5_readLine_4 21 rfl rfl)
theorem dX5_readLine_116 : decode cX5_readLine 116 = .ok (.goto 34, 3) := dk_167 0 34 (dk_at dksX5_readLine_5 0 rfl rfl)
theorem dX5_readLine_119 : decode cX5_readLine 119 = .ok (.aload_n 0, 1) := dk_42 (dk_at dksX5_readLine_5 3 rfl rfl)
theorem dX5_readLine_120 : decode cX5_readLine 120 = .ok (.bipush 16, 2) := dk_16 16 (dk_at dksX5_readLine_5 4 rfl rfl)
theorem dX5_readLine_122 : decode cX5_readLine 122 = .ok (.invokevirtual 145, 3) := dk_182 0 145 (dk_at dksX5_readLine_5 6 rfl rfl)
theorem dX5_readLine_125 : decode cX5_readLine 125 = .ok (.ifCond .eq 21, 3) := dk_153 0 21 (dk_at dksX5_readLine_5 9 rfl rfl)
theorem dX5_readLine_128 : decode cX5_readLine 128 = .ok (.aload_n 0, 1) := dk_42 (dk_at dksX5_readLine_5 12 rfl rfl)
theorem dX5_readLine_129 : decode cX5_readLine 129 = .ok (.getfield 27, 3) := dk_180 0 27 (dk_at dksX5_readLine_5 13 rfl rfl)
theorem dX5_readLine_132 : decode cX5_readLine 132 = .ok (.bipush 38, 2) := dk_16 38 (dk_at dksX5_readLine_5 16 rfl rfl)
theorem dX5_readLine_134 : decode cX5_readLine 134 = .ok (.aload_n 0, 1) := dk_42 (dk_at dksX5_readLine_5 18 rfl rfl)
theorem dX5_readLine_135 : decode cX5_readLine 135 = .ok (.iconst 1, 1) := dk_4 (dk_at dksX5_readLine_5 19 rfl rfl)
theorem dX5_readLine_136 : decode cX5_readLine 136 = .ok (.sipush 200, 3) := dk_17 0 200 (dk_at dksX5_readLine_5 20 rfl rfl)
theorem dX5_readLine_139 : decode cX5_readLine 139 = .ok (.invokevirtual 156, 3) := dk_182 0 156 (dk_at dksX5_readLine_6 0 rfl rfl)
theorem dX5_readLine_142 : decode cX5_readLine 142 = .ok (.iastore, 1) := dk_79 (dk_at dksX5_readLine_6 3 rfl rfl)
theorem dX5_readLine_143 : decode cX5_readLine 143 = .ok (.goto 7, 3) := dk_167 0 7 (dk_at dksX5_readLine_6 4 rfl rfl)
theorem dX5_readLine_146 : decode cX5_readLine 146 = .ok (.aload_n 0, 1) := dk_42 (dk_at dksX5_readLine_6 7 rfl rfl)
theorem dX5_readLine_147 : decode cX5_readLine 147 = .ok (.invokevirtual 169, 3) := dk_182 0 169 (dk_at dksX5_readLine_6 8 rfl rfl)
theorem dX5_readLine_150 : decode cX5_readLine 150 = .ok (.aload_n 0, 1) := dk_42 (dk_at dksX5_readLine_6 11 rfl rfl)
theorem dX5_readLine_151 : decode cX5_readLine 151 = .ok (.bipush 31, 2) := dk_16 31 (dk_at dksX5_readLine_6 12 rfl rfl)
theorem dX5_readLine_153 : decode cX5_readLine 153 = .ok (.invokevirtual 160, 3) := dk_182 0 160 (dk_at dksX5_readLine_6 14 rfl rfl)
theorem dX5_readLine_156 : decode cX5_readLine 156 = .ok (.aload_n 0, 1) := dk_42 (dk_at dksX5_readLine_6 17 rfl rfl)
theorem dX5_readLine_157 : decode cX5_readLine 157 = .ok (.getfield 27, 3) := dk_180 0 27 (dk_at dksX5_readLine_6 18 rfl rfl)
theorem dX5_readLine_160 : decode cX5_readLine 160 = .ok (.bipush 39, 2) := dk_16 39 (dk_at dksX5_readLine_6 21 rfl rfl)
theorem dX5_readLine_162 : decode cX5_readLine 162 = .ok (.dup2, 1) := dk_92 (dk_at dksX5_readLine_6 23 rfl rfl)
theorem dX5_readLine_163 : decode cX5_readLine 163 = .ok (.iaload, 1) := dk_46 (dk_at dksX5_readLine_7 0 rfl rfl)
theorem dX5_readLine_164 : decode cX5_readLine 164 = .ok (.iconst 1, 1) := dk_4 (dk_at dksX5_readLine_7 1 rfl rfl)
theorem dX5_readLine_165 : decode cX5_readLine 165 = .ok (.iadd, 1) := dk_96 (dk_at dksX5_readLine_7 2 rfl rfl)
theorem dX5_readLine_166 : decode cX5_readLine 166 = .ok (.iastore, 1) := dk_79 (dk_at dksX5_readLine_7 3 rfl rfl)
theorem dX5_readLine_167 : decode cX5_readLine 167 = .ok (.return_, 1) := dk_177 (dk_at dksX5_readLine_7 4 rfl rfl)
abbrev cX5_eats : ByteArray := prog_21_method_15_code
def yX5_eats : MethodName := ⟨RX5, "eats", "(I)Z"⟩
def dkwX5_eats_0 : List UInt8 := [42, 27, 182, 0, 139, 154, 0, 5, 3, 172, 42, 182, 0, 142, 4, 172]
abbrev dktX5_eats_0 : List UInt8 := dkwX5_eats_0 ++ []
theorem dksX5_eats_0 : cX5_eats.data.toList.drop 0 = dktX5_eats_0 := by decide +kernel
theorem dX5_eats_0 : decode cX5_eats 0 = .ok (.aload_n 0, 1) := dk_42 (dk_at dksX5_eats_0 0 rfl rfl)
theorem dX5_eats_1 : decode cX5_eats 1 = .ok (.iload_n 1, 1) := dk_27 (dk_at dksX5_eats_0 1 rfl rfl)
theorem dX5_eats_2 : decode cX5_eats 2 = .ok (.invokevirtual 139, 3) := dk_182 0 139 (dk_at dksX5_eats_0 2 rfl rfl)
theorem dX5_eats_5 : decode cX5_eats 5 = .ok (.ifCond .ne 5, 3) := dk_154 0 5 (dk_at dksX5_eats_0 5 rfl rfl)
theorem dX5_eats_8 : decode cX5_eats 8 = .ok (.iconst 0, 1) := dk_3 (dk_at dksX5_eats_0 8 rfl rfl)
theorem dX5_eats_9 : decode cX5_eats 9 = .ok (.ireturn, 1) := dk_172 (dk_at dksX5_eats_0 9 rfl rfl)
theorem dX5_eats_10 : decode cX5_eats 10 = .ok (.aload_n 0, 1) := dk_42 (dk_at dksX5_eats_0 10 rfl rfl)
theorem dX5_eats_11 : decode cX5_eats 11 = .ok (.invokevirtual 142, 3) := dk_182 0 142 (dk_at dksX5_eats_0 11 rfl rfl)
theorem dX5_eats_14 : decode cX5_eats 14 = .ok (.iconst 1, 1) := dk_4 (dk_at dksX5_eats_0 14 rfl rfl)
theorem dX5_eats_15 : decode cX5_eats 15 = .ok (.ireturn, 1) := dk_172 (dk_at dksX5_eats_0 15 rfl rfl)
abbrev cX5_is : ByteArray := prog_21_method_14_code
def yX5_is : MethodName := ⟨RX5, "is", "(I)Z"⟩
def dkwX5_is_0 : List UInt8 := [42, 180, 0, 133, 154, 0, 15, 42, 180, 0, 117, 27, 160, 0, 7, 4, 167, 0, 4, 3, 172]
abbrev dktX5_is_0 : List UInt8 := dkwX5_is_0 ++ []
theorem dksX5_is_0 : cX5_is.data.toList.drop 0 = dktX5_is_0 := by decide +kernel
theorem dX5_is_0 : decode cX5_is 0 = .ok (.aload_n 0, 1) := dk_42 (dk_at dksX5_is_0 0 rfl rfl)
theorem dX5_is_1 : decode cX5_is 1 = .ok (.getfield 133, 3) := dk_180 0 133 (dk_at dksX5_is_0 1 rfl rfl)
theorem dX5_is_4 : decode cX5_is 4 = .ok (.ifCond .ne 15, 3) := dk_154 0 15 (dk_at dksX5_is_0 4 rfl rfl)
theorem dX5_is_7 : decode cX5_is 7 = .ok (.aload_n 0, 1) := dk_42 (dk_at dksX5_is_0 7 rfl rfl)
theorem dX5_is_8 : decode cX5_is 8 = .ok (.getfield 117, 3) := dk_180 0 117 (dk_at dksX5_is_0 8 rfl rfl)
theorem dX5_is_11 : decode cX5_is 11 = .ok (.iload_n 1, 1) := dk_27 (dk_at dksX5_is_0 11 rfl rfl)
theorem dX5_is_12 : decode cX5_is 12 = .ok (.if_icmp .ne 7, 3) := dk_160 0 7 (dk_at dksX5_is_0 12 rfl rfl)
theorem dX5_is_15 : decode cX5_is 15 = .ok (.iconst 1, 1) := dk_4 (dk_at dksX5_is_0 15 rfl rfl)
theorem dX5_is_16 : decode cX5_is 16 = .ok (.goto 4, 3) := dk_167 0 4 (dk_at dksX5_is_0 16 rfl rfl)
theorem dX5_is_19 : decode cX5_is 19 = .ok (.iconst 0, 1) := dk_3 (dk_at dksX5_is_0 19 rfl rfl)
theorem dX5_is_20 : decode cX5_is 20 = .ok (.ireturn, 1) := dk_172 (dk_at dksX5_is_0 20 rfl rfl)
abbrev cX5_lanesNeeded : ByteArray := prog_21_method_19_code
def yX5_lanesNeeded : MethodName := ⟨RX5, "lanesNeeded", "()I"⟩
def dkwX5_lanesNeeded_2 : List UInt8 := [167, 255, 214, 27, 172]
abbrev dktX5_lanesNeeded_2 : List UInt8 := dkwX5_lanesNeeded_2 ++ []
def dkwX5_lanesNeeded_1 : List UInt8 := [27, 164, 0, 16, 42, 180, 0, 27, 5, 28, 96, 46, 4, 96, 167, 0, 4, 27, 60, 132, 2, 1]
abbrev dktX5_lanesNeeded_1 : List UInt8 := dkwX5_lanesNeeded_1 ++ dktX5_lanesNeeded_2
def dkwX5_lanesNeeded_0 : List UInt8 := [4, 60, 3, 61, 28, 42, 180, 0, 27, 4, 46, 162, 0, 38, 42, 180, 0, 27, 5, 28, 96, 46, 4, 96]
abbrev dktX5_lanesNeeded_0 : List UInt8 := dkwX5_lanesNeeded_0 ++ dktX5_lanesNeeded_1
theorem dksX5_lanesNeeded_0 : cX5_lanesNeeded.data.toList.drop 0 = dktX5_lanesNeeded_0 := by decide +kernel
theorem dksX5_lanesNeeded_1 : cX5_lanesNeeded.data.toList.drop 24 = dktX5_lanesNeeded_1 := dk_seg dksX5_lanesNeeded_0 24 rfl rfl
theorem dksX5_lanesNeeded_2 : cX5_lanesNeeded.data.toList.drop 46 = dktX5_lanesNeeded_2 := dk_seg dksX5_lanesNeeded_1 22 rfl rfl
theorem dX5_lanesNeeded_0 : decode cX5_lanesNeeded 0 = .ok (.iconst 1, 1) := dk_4 (dk_at dksX5_lanesNeeded_0 0 rfl rfl)
theorem dX5_lanesNeeded_1 : decode cX5_lanesNeeded 1 = .ok (.istore_n 1, 1) := dk_60 (dk_at dksX5_lanesNeeded_0 1 rfl rfl)
theorem dX5_lanesNeeded_2 : decode cX5_lanesNeeded 2 = .ok (.iconst 0, 1) := dk_3 (dk_at dksX5_lanesNeeded_0 2 rfl rfl)
theorem dX5_lanesNeeded_3 : decode cX5_lanesNeeded 3 = .ok (.istore_n 2, 1) := dk_61 (dk_at dksX5_lanesNeeded_0 3 rfl rfl)
theorem dX5_lanesNeeded_4 : decode cX5_lanesNeeded 4 = .ok (.iload_n 2, 1) := dk_28 (dk_at dksX5_lanesNeeded_0 4 rfl rfl)
theorem dX5_lanesNeeded_5 : decode cX5_lanesNeeded 5 = .ok (.aload_n 0, 1) := dk_42 (dk_at dksX5_lanesNeeded_0 5 rfl rfl)
theorem dX5_lanesNeeded_6 : decode cX5_lanesNeeded 6 = .ok (.getfield 27, 3) := dk_180 0 27 (dk_at dksX5_lanesNeeded_0 6 rfl rfl)
theorem dX5_lanesNeeded_9 : decode cX5_lanesNeeded 9 = .ok (.iconst 1, 1) := dk_4 (dk_at dksX5_lanesNeeded_0 9 rfl rfl)
theorem dX5_lanesNeeded_10 : decode cX5_lanesNeeded 10 = .ok (.iaload, 1) := dk_46 (dk_at dksX5_lanesNeeded_0 10 rfl rfl)
theorem dX5_lanesNeeded_11 : decode cX5_lanesNeeded 11 = .ok (.if_icmp .ge 38, 3) := dk_162 0 38 (dk_at dksX5_lanesNeeded_0 11 rfl rfl)
theorem dX5_lanesNeeded_14 : decode cX5_lanesNeeded 14 = .ok (.aload_n 0, 1) := dk_42 (dk_at dksX5_lanesNeeded_0 14 rfl rfl)
theorem dX5_lanesNeeded_15 : decode cX5_lanesNeeded 15 = .ok (.getfield 27, 3) := dk_180 0 27 (dk_at dksX5_lanesNeeded_0 15 rfl rfl)
theorem dX5_lanesNeeded_18 : decode cX5_lanesNeeded 18 = .ok (.iconst 2, 1) := dk_5 (dk_at dksX5_lanesNeeded_0 18 rfl rfl)
theorem dX5_lanesNeeded_19 : decode cX5_lanesNeeded 19 = .ok (.iload_n 2, 1) := dk_28 (dk_at dksX5_lanesNeeded_0 19 rfl rfl)
theorem dX5_lanesNeeded_20 : decode cX5_lanesNeeded 20 = .ok (.iadd, 1) := dk_96 (dk_at dksX5_lanesNeeded_0 20 rfl rfl)
theorem dX5_lanesNeeded_21 : decode cX5_lanesNeeded 21 = .ok (.iaload, 1) := dk_46 (dk_at dksX5_lanesNeeded_0 21 rfl rfl)
theorem dX5_lanesNeeded_22 : decode cX5_lanesNeeded 22 = .ok (.iconst 1, 1) := dk_4 (dk_at dksX5_lanesNeeded_0 22 rfl rfl)
theorem dX5_lanesNeeded_23 : decode cX5_lanesNeeded 23 = .ok (.iadd, 1) := dk_96 (dk_at dksX5_lanesNeeded_0 23 rfl rfl)
theorem dX5_lanesNeeded_24 : decode cX5_lanesNeeded 24 = .ok (.iload_n 1, 1) := dk_27 (dk_at dksX5_lanesNeeded_1 0 rfl rfl)
theorem dX5_lanesNeeded_25 : decode cX5_lanesNeeded 25 = .ok (.if_icmp .le 16, 3) := dk_164 0 16 (dk_at dksX5_lanesNeeded_1 1 rfl rfl)
theorem dX5_lanesNeeded_28 : decode cX5_lanesNeeded 28 = .ok (.aload_n 0, 1) := dk_42 (dk_at dksX5_lanesNeeded_1 4 rfl rfl)
theorem dX5_lanesNeeded_29 : decode cX5_lanesNeeded 29 = .ok (.getfield 27, 3) := dk_180 0 27 (dk_at dksX5_lanesNeeded_1 5 rfl rfl)
theorem dX5_lanesNeeded_32 : decode cX5_lanesNeeded 32 = .ok (.iconst 2, 1) := dk_5 (dk_at dksX5_lanesNeeded_1 8 rfl rfl)
theorem dX5_lanesNeeded_33 : decode cX5_lanesNeeded 33 = .ok (.iload_n 2, 1) := dk_28 (dk_at dksX5_lanesNeeded_1 9 rfl rfl)
theorem dX5_lanesNeeded_34 : decode cX5_lanesNeeded 34 = .ok (.iadd, 1) := dk_96 (dk_at dksX5_lanesNeeded_1 10 rfl rfl)
theorem dX5_lanesNeeded_35 : decode cX5_lanesNeeded 35 = .ok (.iaload, 1) := dk_46 (dk_at dksX5_lanesNeeded_1 11 rfl rfl)
theorem dX5_lanesNeeded_36 : decode cX5_lanesNeeded 36 = .ok (.iconst 1, 1) := dk_4 (dk_at dksX5_lanesNeeded_1 12 rfl rfl)
theorem dX5_lanesNeeded_37 : decode cX5_lanesNeeded 37 = .ok (.iadd, 1) := dk_96 (dk_at dksX5_lanesNeeded_1 13 rfl rfl)
theorem dX5_lanesNeeded_38 : decode cX5_lanesNeeded 38 = .ok (.goto 4, 3) := dk_167 0 4 (dk_at dksX5_lanesNeeded_1 14 rfl rfl)
theorem dX5_lanesNeeded_41 : decode cX5_lanesNeeded 41 = .ok (.iload_n 1, 1) := dk_27 (dk_at dksX5_lanesNeeded_1 17 rfl rfl)
theorem dX5_lanesNeeded_42 : decode cX5_lanesNeeded 42 = .ok (.istore_n 1, 1) := dk_60 (dk_at dksX5_lanesNeeded_1 18 rfl rfl)
theorem dX5_lanesNeeded_43 : decode cX5_lanesNeeded 43 = .ok (.iinc 2 1, 3) := dk_132 2 1 (dk_at dksX5_lanesNeeded_1 19 rfl rfl)
theorem dX5_lanesNeeded_46 : decode cX5_lanesNeeded 46 = .ok (.goto (-42), 3) := dk_167 255 214 (dk_at dksX5_lanesNeeded_2 0 rfl rfl)
theorem dX5_lanesNeeded_49 : decode cX5_lanesNeeded 49 = .ok (.iload_n 1, 1) := dk_27 (dk_at dksX5_lanesNeeded_2 3 rfl rfl)
theorem dX5_lanesNeeded_50 : decode cX5_lanesNeeded 50 = .ok (.ireturn, 1) := dk_172 (dk_at dksX5_lanesNeeded_2 4 rfl rfl)
abbrev cX5_takes : ByteArray := prog_21_method_17_code
def yX5_takes : MethodName := ⟨RX5, "takes", "(II)I"⟩
def dkwX5_takes_2 : List UInt8 := [154, 0, 7, 42, 182, 0, 142, 29, 172]
abbrev dktX5_takes_2 : List UInt8 := dkwX5_takes_2 ++ []
def dkwX5_takes_1 : List UInt8 := [28, 133, 184, 0, 152, 154, 0, 8, 42, 6, 182, 0, 148, 42, 180, 0, 130, 62, 42, 180, 0, 133]
abbrev dktX5_takes_1 : List UInt8 := dkwX5_takes_1 ++ dktX5_takes_2
def dkwX5_takes_0 : List UInt8 := [42, 16, 30, 182, 0, 139, 154, 0, 11, 42, 5, 182, 0, 148, 167, 0, 23, 42, 180, 0, 130, 133, 27, 133]
abbrev dktX5_takes_0 : List UInt8 := dkwX5_takes_0 ++ dktX5_takes_1
theorem dksX5_takes_0 : cX5_takes.data.toList.drop 0 = dktX5_takes_0 := by decide +kernel
theorem dksX5_takes_1 : cX5_takes.data.toList.drop 24 = dktX5_takes_1 := dk_seg dksX5_takes_0 24 rfl rfl
theorem dksX5_takes_2 : cX5_takes.data.toList.drop 46 = dktX5_takes_2 := dk_seg dksX5_takes_1 22 rfl rfl
theorem dX5_takes_0 : decode cX5_takes 0 = .ok (.aload_n 0, 1) := dk_42 (dk_at dksX5_takes_0 0 rfl rfl)
theorem dX5_takes_1 : decode cX5_takes 1 = .ok (.bipush 30, 2) := dk_16 30 (dk_at dksX5_takes_0 1 rfl rfl)
theorem dX5_takes_3 : decode cX5_takes 3 = .ok (.invokevirtual 139, 3) := dk_182 0 139 (dk_at dksX5_takes_0 3 rfl rfl)
theorem dX5_takes_6 : decode cX5_takes 6 = .ok (.ifCond .ne 11, 3) := dk_154 0 11 (dk_at dksX5_takes_0 6 rfl rfl)
theorem dX5_takes_9 : decode cX5_takes 9 = .ok (.aload_n 0, 1) := dk_42 (dk_at dksX5_takes_0 9 rfl rfl)
theorem dX5_takes_10 : decode cX5_takes 10 = .ok (.iconst 2, 1) := dk_5 (dk_at dksX5_takes_0 10 rfl rfl)
theorem dX5_takes_11 : decode cX5_takes 11 = .ok (.invokevirtual 148, 3) := dk_182 0 148 (dk_at dksX5_takes_0 11 rfl rfl)
theorem dX5_takes_14 : decode cX5_takes 14 = .ok (.goto 23, 3) := dk_167 0 23 (dk_at dksX5_takes_0 14 rfl rfl)
theorem dX5_takes_17 : decode cX5_takes 17 = .ok (.aload_n 0, 1) := dk_42 (dk_at dksX5_takes_0 17 rfl rfl)
theorem dX5_takes_18 : decode cX5_takes 18 = .ok (.getfield 130, 3) := dk_180 0 130 (dk_at dksX5_takes_0 18 rfl rfl)
theorem dX5_takes_21 : decode cX5_takes 21 = .ok (.i2l, 1) := dk_133 (dk_at dksX5_takes_0 21 rfl rfl)
theorem dX5_takes_22 : decode cX5_takes 22 = .ok (.iload_n 1, 1) := dk_27 (dk_at dksX5_takes_0 22 rfl rfl)
theorem dX5_takes_23 : decode cX5_takes 23 = .ok (.i2l, 1) := dk_133 (dk_at dksX5_takes_0 23 rfl rfl)
theorem dX5_takes_24 : decode cX5_takes 24 = .ok (.iload_n 2, 1) := dk_28 (dk_at dksX5_takes_1 0 rfl rfl)
theorem dX5_takes_25 : decode cX5_takes 25 = .ok (.i2l, 1) := dk_133 (dk_at dksX5_takes_1 1 rfl rfl)
theorem dX5_takes_26 : decode cX5_takes 26 = .ok (.invokestatic 152, 3) := dk_184 0 152 (dk_at dksX5_takes_1 2 rfl rfl)
theorem dX5_takes_29 : decode cX5_takes 29 = .ok (.ifCond .ne 8, 3) := dk_154 0 8 (dk_at dksX5_takes_1 5 rfl rfl)
theorem dX5_takes_32 : decode cX5_takes 32 = .ok (.aload_n 0, 1) := dk_42 (dk_at dksX5_takes_1 8 rfl rfl)
theorem dX5_takes_33 : decode cX5_takes 33 = .ok (.iconst 3, 1) := dk_6 (dk_at dksX5_takes_1 9 rfl rfl)
theorem dX5_takes_34 : decode cX5_takes 34 = .ok (.invokevirtual 148, 3) := dk_182 0 148 (dk_at dksX5_takes_1 10 rfl rfl)
theorem dX5_takes_37 : decode cX5_takes 37 = .ok (.aload_n 0, 1) := dk_42 (dk_at dksX5_takes_1 13 rfl rfl)
theorem dX5_takes_38 : decode cX5_takes 38 = .ok (.getfield 130, 3) := dk_180 0 130 (dk_at dksX5_takes_1 14 rfl rfl)
theorem dX5_takes_41 : decode cX5_takes 41 = .ok (.istore_n 3, 1) := dk_62 (dk_at dksX5_takes_1 17 rfl rfl)
theorem dX5_takes_42 : decode cX5_takes 42 = .ok (.aload_n 0, 1) := dk_42 (dk_at dksX5_takes_1 18 rfl rfl)
theorem dX5_takes_43 : decode cX5_takes 43 = .ok (.getfield 133, 3) := dk_180 0 133 (dk_at dksX5_takes_1 19 rfl rfl)
theorem dX5_takes_46 : decode cX5_takes 46 = .ok (.ifCond .ne 7, 3) := dk_154 0 7 (dk_at dksX5_takes_2 0 rfl rfl)
theorem dX5_takes_49 : decode cX5_takes 49 = .ok (.aload_n 0, 1) := dk_42 (dk_at dksX5_takes_2 3 rfl rfl)
theorem dX5_takes_50 : decode cX5_takes 50 = .ok (.invokevirtual 142, 3) := dk_182 0 142 (dk_at dksX5_takes_2 4 rfl rfl)
theorem dX5_takes_53 : decode cX5_takes 53 = .ok (.iload_n 3, 1) := dk_29 (dk_at dksX5_takes_2 7 rfl rfl)
theorem dX5_takes_54 : decode cX5_takes 54 = .ok (.ireturn, 1) := dk_172 (dk_at dksX5_takes_2 8 rfl rfl)
abbrev cX5_fails : ByteArray := prog_21_method_13_code
def yX5_fails : MethodName := ⟨RX5, "fails", "(I)V"⟩
def dkwX5_fails_1 : List UInt8 := [181, 0, 133, 42, 42, 180, 0, 108, 181, 0, 136, 177]
abbrev dktX5_fails_1 : List UInt8 := dkwX5_fails_1 ++ []
def dkwX5_fails_0 : List UInt8 := [42, 180, 0, 133, 153, 0, 4, 177, 42, 42, 180, 0, 117, 16, 35, 160, 0, 7, 4, 167, 0, 4, 27]
abbrev dktX5_fails_0 : List UInt8 := dkwX5_fails_0 ++ dktX5_fails_1
theorem dksX5_fails_0 : cX5_fails.data.toList.drop 0 = dktX5_fails_0 := by decide +kernel
theorem dksX5_fails_1 : cX5_fails.data.toList.drop 23 = dktX5_fails_1 := dk_seg dksX5_fails_0 23 rfl rfl
theorem dX5_fails_0 : decode cX5_fails 0 = .ok (.aload_n 0, 1) := dk_42 (dk_at dksX5_fails_0 0 rfl rfl)
theorem dX5_fails_1 : decode cX5_fails 1 = .ok (.getfield 133, 3) := dk_180 0 133 (dk_at dksX5_fails_0 1 rfl rfl)
theorem dX5_fails_4 : decode cX5_fails 4 = .ok (.ifCond .eq 4, 3) := dk_153 0 4 (dk_at dksX5_fails_0 4 rfl rfl)
theorem dX5_fails_7 : decode cX5_fails 7 = .ok (.return_, 1) := dk_177 (dk_at dksX5_fails_0 7 rfl rfl)
theorem dX5_fails_8 : decode cX5_fails 8 = .ok (.aload_n 0, 1) := dk_42 (dk_at dksX5_fails_0 8 rfl rfl)
theorem dX5_fails_9 : decode cX5_fails 9 = .ok (.aload_n 0, 1) := dk_42 (dk_at dksX5_fails_0 9 rfl rfl)
theorem dX5_fails_10 : decode cX5_fails 10 = .ok (.getfield 117, 3) := dk_180 0 117 (dk_at dksX5_fails_0 10 rfl rfl)
theorem dX5_fails_13 : decode cX5_fails 13 = .ok (.bipush 35, 2) := dk_16 35 (dk_at dksX5_fails_0 13 rfl rfl)
theorem dX5_fails_15 : decode cX5_fails 15 = .ok (.if_icmp .ne 7, 3) := dk_160 0 7 (dk_at dksX5_fails_0 15 rfl rfl)
theorem dX5_fails_18 : decode cX5_fails 18 = .ok (.iconst 1, 1) := dk_4 (dk_at dksX5_fails_0 18 rfl rfl)
theorem dX5_fails_19 : decode cX5_fails 19 = .ok (.goto 4, 3) := dk_167 0 4 (dk_at dksX5_fails_0 19 rfl rfl)
theorem dX5_fails_22 : decode cX5_fails 22 = .ok (.iload_n 1, 1) := dk_27 (dk_at dksX5_fails_0 22 rfl rfl)
theorem dX5_fails_23 : decode cX5_fails 23 = .ok (.putfield 133, 3) := dk_181 0 133 (dk_at dksX5_fails_1 0 rfl rfl)
theorem dX5_fails_26 : decode cX5_fails 26 = .ok (.aload_n 0, 1) := dk_42 (dk_at dksX5_fails_1 3 rfl rfl)
theorem dX5_fails_27 : decode cX5_fails 27 = .ok (.aload_n 0, 1) := dk_42 (dk_at dksX5_fails_1 4 rfl rfl)
theorem dX5_fails_28 : decode cX5_fails 28 = .ok (.getfield 108, 3) := dk_180 0 108 (dk_at dksX5_fails_1 5 rfl rfl)
theorem dX5_fails_31 : decode cX5_fails 31 = .ok (.putfield 136, 3) := dk_181 0 136 (dk_at dksX5_fails_1 8 rfl rfl)
theorem dX5_fails_34 : decode cX5_fails 34 = .ok (.return_, 1) := dk_177 (dk_at dksX5_fails_1 11 rfl rfl)
abbrev cX5_readCar : ByteArray := prog_21_method_18_code
def yX5_readCar : MethodName := ⟨RX5, "readCar", "()V"⟩
def dkwX5_readCar_5 : List UInt8 := [180, 0, 27, 4, 92, 46, 4, 96, 79, 177]
abbrev dktX5_readCar_5 : List UInt8 := dkwX5_readCar_5 ++ []
def dkwX5_readCar_4 : List UInt8 := [79, 42, 7, 182, 0, 160, 42, 180, 0, 27, 16, 26, 27, 96, 42, 3, 6, 182, 0, 156, 79, 42]
abbrev dktX5_readCar_4 : List UInt8 := dkwX5_readCar_4 ++ dktX5_readCar_5
def dkwX5_readCar_3 : List UInt8 := [182, 0, 156, 79, 42, 6, 182, 0, 160, 42, 180, 0, 27, 16, 18, 27, 96, 42, 4, 16, 9, 182, 0, 156]
abbrev dktX5_readCar_3 : List UInt8 := dkwX5_readCar_3 ++ dktX5_readCar_4
def dkwX5_readCar_2 : List UInt8 := [100, 182, 0, 156, 79, 42, 5, 182, 0, 160, 42, 180, 0, 27, 16, 10, 27, 96, 42, 4, 17, 0, 200]
abbrev dktX5_readCar_2 : List UInt8 := dkwX5_readCar_2 ++ dktX5_readCar_3
def dkwX5_readCar_1 : List UInt8 := [153, 0, 4, 177, 42, 182, 0, 142, 42, 180, 0, 27, 5, 27, 96, 42, 3, 42, 180, 0, 27, 3, 46, 4]
abbrev dktX5_readCar_1 : List UInt8 := dkwX5_readCar_1 ++ dktX5_readCar_2
def dkwX5_readCar_0 : List UInt8 := [42, 180, 0, 27, 4, 46, 60, 27, 16, 8, 160, 0, 8, 42, 7, 182, 0, 148, 42, 180, 0, 133]
abbrev dktX5_readCar_0 : List UInt8 := dkwX5_readCar_0 ++ dktX5_readCar_1
theorem dksX5_readCar_0 : cX5_readCar.data.toList.drop 0 = dktX5_readCar_0 := by decide +kernel
theorem dksX5_readCar_1 : cX5_readCar.data.toList.drop 22 = dktX5_readCar_1 := dk_seg dksX5_readCar_0 22 rfl rfl
theorem dksX5_readCar_2 : cX5_readCar.data.toList.drop 46 = dktX5_readCar_2 := dk_seg dksX5_readCar_1 24 rfl rfl
theorem dksX5_readCar_3 : cX5_readCar.data.toList.drop 69 = dktX5_readCar_3 := dk_seg dksX5_readCar_2 23 rfl rfl
theorem dksX5_readCar_4 : cX5_readCar.data.toList.drop 93 = dktX5_readCar_4 := dk_seg dksX5_readCar_3 24 rfl rfl
theorem dksX5_readCar_5 : cX5_readCar.data.toList.drop 115 = dktX5_readCar_5 := dk_seg dksX5_readCar_4 22 rfl rfl
theorem dX5_readCar_0 : decode cX5_readCar 0 = .ok (.aload_n 0, 1) := dk_42 (dk_at dksX5_readCar_0 0 rfl rfl)
theorem dX5_readCar_1 : decode cX5_readCar 1 = .ok (.getfield 27, 3) := dk_180 0 27 (dk_at dksX5_readCar_0 1 rfl rfl)
theorem dX5_readCar_4 : decode cX5_readCar 4 = .ok (.iconst 1, 1) := dk_4 (dk_at dksX5_readCar_0 4 rfl rfl)
theorem dX5_readCar_5 : decode cX5_readCar 5 = .ok (.iaload, 1) := dk_46 (dk_at dksX5_readCar_0 5 rfl rfl)
theorem dX5_readCar_6 : decode cX5_readCar 6 = .ok (.istore_n 1, 1) := dk_60 (dk_at dksX5_readCar_0 6 rfl rfl)
theorem dX5_readCar_7 : decode cX5_readCar 7 = .ok (.iload_n 1, 1) := dk_27 (dk_at dksX5_readCar_0 7 rfl rfl)
theorem dX5_readCar_8 : decode cX5_readCar 8 = .ok (.bipush 8, 2) := dk_16 8 (dk_at dksX5_readCar_0 8 rfl rfl)
theorem dX5_readCar_10 : decode cX5_readCar 10 = .ok (.if_icmp .ne 8, 3) := dk_160 0 8 (dk_at dksX5_readCar_0 10 rfl rfl)
theorem dX5_readCar_13 : decode cX5_readCar 13 = .ok (.aload_n 0, 1) := dk_42 (dk_at dksX5_readCar_0 13 rfl rfl)
theorem dX5_readCar_14 : decode cX5_readCar 14 = .ok (.iconst 4, 1) := dk_7 (dk_at dksX5_readCar_0 14 rfl rfl)
theorem dX5_readCar_15 : decode cX5_readCar 15 = .ok (.invokevirtual 148, 3) := dk_182 0 148 (dk_at dksX5_readCar_0 15 rfl rfl)
theorem dX5_readCar_18 : decode cX5_readCar 18 = .ok (.aload_n 0, 1) := dk_42 (dk_at dksX5_readCar_0 18 rfl rfl)
theorem dX5_readCar_19 : decode cX5_readCar 19 = .ok (.getfield 133, 3) := dk_180 0 133 (dk_at dksX5_readCar_0 19 rfl rfl)
theorem dX5_readCar_22 : decode cX5_readCar 22 = .ok (.ifCond .eq 4, 3) := dk_153 0 4 (dk_at dksX5_readCar_1 0 rfl rfl)
theorem dX5_readCar_25 : decode cX5_readCar 25 = .ok (.return_, 1) := dk_177 (dk_at dksX5_readCar_1 3 rfl rfl)
theorem dX5_readCar_26 : decode cX5_readCar 26 = .ok (.aload_n 0, 1) := dk_42 (dk_at dksX5_readCar_1 4 rfl rfl)
theorem dX5_readCar_27 : decode cX5_readCar 27 = .ok (.invokevirtual 142, 3) := dk_182 0 142 (dk_at dksX5_readCar_1 5 rfl rfl)
theorem dX5_readCar_30 : decode cX5_readCar 30 = .ok (.aload_n 0, 1) := dk_42 (dk_at dksX5_readCar_1 8 rfl rfl)
theorem dX5_readCar_31 : decode cX5_readCar 31 = .ok (.getfield 27, 3) := dk_180 0 27 (dk_at dksX5_readCar_1 9 rfl rfl)
theorem dX5_readCar_34 : decode cX5_readCar 34 = .ok (.iconst 2, 1) := dk_5 (dk_at dksX5_readCar_1 12 rfl rfl)
theorem dX5_readCar_35 : decode cX5_readCar 35 = .ok (.iload_n 1, 1) := dk_27 (dk_at dksX5_readCar_1 13 rfl rfl)
theorem dX5_readCar_36 : decode cX5_readCar 36 = .ok (.iadd, 1) := dk_96 (dk_at dksX5_readCar_1 14 rfl rfl)
theorem dX5_readCar_37 : decode cX5_readCar 37 = .ok (.aload_n 0, 1) := dk_42 (dk_at dksX5_readCar_1 15 rfl rfl)
theorem dX5_readCar_38 : decode cX5_readCar 38 = .ok (.iconst 0, 1) := dk_3 (dk_at dksX5_readCar_1 16 rfl rfl)
theorem dX5_readCar_39 : decode cX5_readCar 39 = .ok (.aload_n 0, 1) := dk_42 (dk_at dksX5_readCar_1 17 rfl rfl)
theorem dX5_readCar_40 : decode cX5_readCar 40 = .ok (.getfield 27, 3) := dk_180 0 27 (dk_at dksX5_readCar_1 18 rfl rfl)
theorem dX5_readCar_43 : decode cX5_readCar 43 = .ok (.iconst 0, 1) := dk_3 (dk_at dksX5_readCar_1 21 rfl rfl)
theorem dX5_readCar_44 : decode cX5_readCar 44 = .ok (.iaload, 1) := dk_46 (dk_at dksX5_readCar_1 22 rfl rfl)
theorem dX5_readCar_45 : decode cX5_readCar 45 = .ok (.iconst 1, 1) := dk_4 (dk_at dksX5_readCar_1 23 rfl rfl)
theorem dX5_readCar_46 : decode cX5_readCar 46 = .ok (.isub, 1) := dk_100 (dk_at dksX5_readCar_2 0 rfl rfl)
theorem dX5_readCar_47 : decode cX5_readCar 47 = .ok (.invokevirtual 156, 3) := dk_182 0 156 (dk_at dksX5_readCar_2 1 rfl rfl)
theorem dX5_readCar_50 : decode cX5_readCar 50 = .ok (.iastore, 1) := dk_79 (dk_at dksX5_readCar_2 4 rfl rfl)
theorem dX5_readCar_51 : decode cX5_readCar 51 = .ok (.aload_n 0, 1) := dk_42 (dk_at dksX5_readCar_2 5 rfl rfl)
theorem dX5_readCar_52 : decode cX5_readCar 52 = .ok (.iconst 2, 1) := dk_5 (dk_at dksX5_readCar_2 6 rfl rfl)
theorem dX5_readCar_53 : decode cX5_readCar 53 = .ok (.invokevirtual 160, 3) := dk_182 0 160 (dk_at dksX5_readCar_2 7 rfl rfl)
theorem dX5_readCar_56 : decode cX5_readCar 56 = .ok (.aload_n 0, 1) := dk_42 (dk_at dksX5_readCar_2 10 rfl rfl)
theorem dX5_readCar_57 : decode cX5_readCar 57 = .ok (.getfield 27, 3) := dk_180 0 27 (dk_at dksX5_readCar_2 11 rfl rfl)
theorem dX5_readCar_60 : decode cX5_readCar 60 = .ok (.bipush 10, 2) := dk_16 10 (dk_at dksX5_readCar_2 14 rfl rfl)
theorem dX5_readCar_62 : decode cX5_readCar 62 = .ok (.iload_n 1, 1) := dk_27 (dk_at dksX5_readCar_2 16 rfl rfl)
theorem dX5_readCar_63 : decode cX5_readCar 63 = .ok (.iadd, 1) := dk_96 (dk_at dksX5_readCar_2 17 rfl rfl)
theorem dX5_readCar_64 : decode cX5_readCar 64 = .ok (.aload_n 0, 1) := dk_42 (dk_at dksX5_readCar_2 18 rfl rfl)
theorem dX5_readCar_65 : decode cX5_readCar 65 = .ok (.iconst 1, 1) := dk_4 (dk_at dksX5_readCar_2 19 rfl rfl)
theorem dX5_readCar_66 : decode cX5_readCar 66 = .ok (.sipush 200, 3) := dk_17 0 200 (dk_at dksX5_readCar_2 20 rfl rfl)
theorem dX5_readCar_69 : decode cX5_readCar 69 = .ok (.invokevirtual 156, 3) := dk_182 0 156 (dk_at dksX5_readCar_3 0 rfl rfl)
theorem dX5_readCar_72 : decode cX5_readCar 72 = .ok (.iastore, 1) := dk_79 (dk_at dksX5_readCar_3 3 rfl rfl)
theorem dX5_readCar_73 : decode cX5_readCar 73 = .ok (.aload_n 0, 1) := dk_42 (dk_at dksX5_readCar_3 4 rfl rfl)
theorem dX5_readCar_74 : decode cX5_readCar 74 = .ok (.iconst 3, 1) := dk_6 (dk_at dksX5_readCar_3 5 rfl rfl)
theorem dX5_readCar_75 : decode cX5_readCar 75 = .ok (.invokevirtual 160, 3) := dk_182 0 160 (dk_at dksX5_readCar_3 6 rfl rfl)
theorem dX5_readCar_78 : decode cX5_readCar 78 = .ok (.aload_n 0, 1) := dk_42 (dk_at dksX5_readCar_3 9 rfl rfl)
theorem dX5_readCar_79 : decode cX5_readCar 79 = .ok (.getfield 27, 3) := dk_180 0 27 (dk_at dksX5_readCar_3 10 rfl rfl)
theorem dX5_readCar_82 : decode cX5_readCar 82 = .ok (.bipush 18, 2) := dk_16 18 (dk_at dksX5_readCar_3 13 rfl rfl)
theorem dX5_readCar_84 : decode cX5_readCar 84 = .ok (.iload_n 1, 1) := dk_27 (dk_at dksX5_readCar_3 15 rfl rfl)
theorem dX5_readCar_85 : decode cX5_readCar 85 = .ok (.iadd, 1) := dk_96 (dk_at dksX5_readCar_3 16 rfl rfl)
theorem dX5_readCar_86 : decode cX5_readCar 86 = .ok (.aload_n 0, 1) := dk_42 (dk_at dksX5_readCar_3 17 rfl rfl)
theorem dX5_readCar_87 : decode cX5_readCar 87 = .ok (.iconst 1, 1) := dk_4 (dk_at dksX5_readCar_3 18 rfl rfl)
theorem dX5_readCar_88 : decode cX5_readCar 88 = .ok (.bipush 9, 2) := dk_16 9 (dk_at dksX5_readCar_3 19 rfl rfl)
theorem dX5_readCar_90 : decode cX5_readCar 90 = .ok (.invokevirtual 156, 3) := dk_182 0 156 (dk_at dksX5_readCar_3 21 rfl rfl)
theorem dX5_readCar_93 : decode cX5_readCar 93 = .ok (.iastore, 1) := dk_79 (dk_at dksX5_readCar_4 0 rfl rfl)
theorem dX5_readCar_94 : decode cX5_readCar 94 = .ok (.aload_n 0, 1) := dk_42 (dk_at dksX5_readCar_4 1 rfl rfl)
theorem dX5_readCar_95 : decode cX5_readCar 95 = .ok (.iconst 4, 1) := dk_7 (dk_at dksX5_readCar_4 2 rfl rfl)
theorem dX5_readCar_96 : decode cX5_readCar 96 = .ok (.invokevirtual 160, 3) := dk_182 0 160 (dk_at dksX5_readCar_4 3 rfl rfl)
theorem dX5_readCar_99 : decode cX5_readCar 99 = .ok (.aload_n 0, 1) := dk_42 (dk_at dksX5_readCar_4 6 rfl rfl)
theorem dX5_readCar_100 : decode cX5_readCar 100 = .ok (.getfield 27, 3) := dk_180 0 27 (dk_at dksX5_readCar_4 7 rfl rfl)
theorem dX5_readCar_103 : decode cX5_readCar 103 = .ok (.bipush 26, 2) := dk_16 26 (dk_at dksX5_readCar_4 10 rfl rfl)
theorem dX5_readCar_105 : decode cX5_readCar 105 = .ok (.iload_n 1, 1) := dk_27 (dk_at dksX5_readCar_4 12 rfl rfl)
theorem dX5_readCar_106 : decode cX5_readCar 106 = .ok (.iadd, 1) := dk_96 (dk_at dksX5_readCar_4 13 rfl rfl)
theorem dX5_readCar_107 : decode cX5_readCar 107 = .ok (.aload_n 0, 1) := dk_42 (dk_at dksX5_readCar_4 14 rfl rfl)
theorem dX5_readCar_108 : decode cX5_readCar 108 = .ok (.iconst 0, 1) := dk_3 (dk_at dksX5_readCar_4 15 rfl rfl)
theorem dX5_readCar_109 : decode cX5_readCar 109 = .ok (.iconst 3, 1) := dk_6 (dk_at dksX5_readCar_4 16 rfl rfl)
theorem dX5_readCar_110 : decode cX5_readCar 110 = .ok (.invokevirtual 156, 3) := dk_182 0 156 (dk_at dksX5_readCar_4 17 rfl rfl)
theorem dX5_readCar_113 : decode cX5_readCar 113 = .ok (.iastore, 1) := dk_79 (dk_at dksX5_readCar_4 20 rfl rfl)
theorem dX5_readCar_114 : decode cX5_readCar 114 = .ok (.aload_n 0, 1) := dk_42 (dk_at dksX5_readCar_4 21 rfl rfl)
theorem dX5_readCar_115 : decode cX5_readCar 115 = .ok (.getfield 27, 3) := dk_180 0 27 (dk_at dksX5_readCar_5 0 rfl rfl)
theorem dX5_readCar_118 : decode cX5_readCar 118 = .ok (.iconst 1, 1) := dk_4 (dk_at dksX5_readCar_5 3 rfl rfl)
theorem dX5_readCar_119 : decode cX5_readCar 119 = .ok (.dup2, 1) := dk_92 (dk_at dksX5_readCar_5 4 rfl rfl)
theorem dX5_readCar_120 : decode cX5_readCar 120 = .ok (.iaload, 1) := dk_46 (dk_at dksX5_readCar_5 5 rfl rfl)
theorem dX5_readCar_121 : decode cX5_readCar 121 = .ok (.iconst 1, 1) := dk_4 (dk_at dksX5_readCar_5 6 rfl rfl)
theorem dX5_readCar_122 : decode cX5_readCar 122 = .ok (.iadd, 1) := dk_96 (dk_at dksX5_readCar_5 7 rfl rfl)
theorem dX5_readCar_123 : decode cX5_readCar 123 = .ok (.iastore, 1) := dk_79 (dk_at dksX5_readCar_5 8 rfl rfl)
theorem dX5_readCar_124 : decode cX5_readCar 124 = .ok (.return_, 1) := dk_177 (dk_at dksX5_readCar_5 9 rfl rfl)
abbrev cX5_needs : ByteArray := prog_21_method_16_code
def yX5_needs : MethodName := ⟨RX5, "needs", "(I)V"⟩
def dkwX5_needs_0 : List UInt8 := [42, 27, 182, 0, 145, 154, 0, 8, 42, 5, 182, 0, 148, 177]
abbrev dktX5_needs_0 : List UInt8 := dkwX5_needs_0 ++ []
theorem dksX5_needs_0 : cX5_needs.data.toList.drop 0 = dktX5_needs_0 := by decide +kernel
theorem dX5_needs_0 : decode cX5_needs 0 = .ok (.aload_n 0, 1) := dk_42 (dk_at dksX5_needs_0 0 rfl rfl)
theorem dX5_needs_1 : decode cX5_needs 1 = .ok (.iload_n 1, 1) := dk_27 (dk_at dksX5_needs_0 1 rfl rfl)
theorem dX5_needs_2 : decode cX5_needs 2 = .ok (.invokevirtual 145, 3) := dk_182 0 145 (dk_at dksX5_needs_0 2 rfl rfl)
theorem dX5_needs_5 : decode cX5_needs 5 = .ok (.ifCond .ne 8, 3) := dk_154 0 8 (dk_at dksX5_needs_0 5 rfl rfl)
theorem dX5_needs_8 : decode cX5_needs 8 = .ok (.aload_n 0, 1) := dk_42 (dk_at dksX5_needs_0 8 rfl rfl)
theorem dX5_needs_9 : decode cX5_needs 9 = .ok (.iconst 2, 1) := dk_5 (dk_at dksX5_needs_0 9 rfl rfl)
theorem dX5_needs_10 : decode cX5_needs 10 = .ok (.invokevirtual 148, 3) := dk_182 0 148 (dk_at dksX5_needs_0 10 rfl rfl)
theorem dX5_needs_13 : decode cX5_needs 13 = .ok (.return_, 1) := dk_177 (dk_at dksX5_needs_0 13 rfl rfl)
abbrev cX5_readTrait : ByteArray := prog_21_method_21_code
def yX5_readTrait : MethodName := ⟨RX5, "readTrait", "()V"⟩
def dkwX5_readTrait_2 : List UInt8 := [120, 128, 79, 42, 182, 0, 142, 177]
abbrev dktX5_readTrait_2 : List UInt8 := dkwX5_readTrait_2 ++ []
def dkwX5_readTrait_1 : List UInt8 := [154, 0, 9, 42, 5, 182, 0, 148, 177, 42, 180, 0, 27, 16, 34, 92, 46, 4, 42, 180, 0, 117, 8, 100]
abbrev dktX5_readTrait_1 : List UInt8 := dkwX5_readTrait_1 ++ dktX5_readTrait_2
def dkwX5_readTrait_0 : List UInt8 := [42, 180, 0, 133, 153, 0, 4, 177, 42, 180, 0, 117, 133, 20, 0, 172, 20, 0, 174, 184, 0, 152]
abbrev dktX5_readTrait_0 : List UInt8 := dkwX5_readTrait_0 ++ dktX5_readTrait_1
theorem dksX5_readTrait_0 : cX5_readTrait.data.toList.drop 0 = dktX5_readTrait_0 := by decide +kernel
theorem dksX5_readTrait_1 : cX5_readTrait.data.toList.drop 22 = dktX5_readTrait_1 := dk_seg dksX5_readTrait_0 22 rfl rfl
theorem dksX5_readTrait_2 : cX5_readTrait.data.toList.drop 46 = dktX5_readTrait_2 := dk_seg dksX5_readTrait_1 24 rfl rfl
theorem dX5_readTrait_0 : decode cX5_readTrait 0 = .ok (.aload_n 0, 1) := dk_42 (dk_at dksX5_readTrait_0 0 rfl rfl)
theorem dX5_readTrait_1 : decode cX5_readTrait 1 = .ok (.getfield 133, 3) := dk_180 0 133 (dk_at dksX5_readTrait_0 1 rfl rfl)
theorem dX5_readTrait_4 : decode cX5_readTrait 4 = .ok (.ifCond .eq 4, 3) := dk_153 0 4 (dk_at dksX5_readTrait_0 4 rfl rfl)
theorem dX5_readTrait_7 : decode cX5_readTrait 7 = .ok (.return_, 1) := dk_177 (dk_at dksX5_readTrait_0 7 rfl rfl)
theorem dX5_readTrait_8 : decode cX5_readTrait 8 = .ok (.aload_n 0, 1) := dk_42 (dk_at dksX5_readTrait_0 8 rfl rfl)
theorem dX5_readTrait_9 : decode cX5_readTrait 9 = .ok (.getfield 117, 3) := dk_180 0 117 (dk_at dksX5_readTrait_0 9 rfl rfl)
theorem dX5_readTrait_12 : decode cX5_readTrait 12 = .ok (.i2l, 1) := dk_133 (dk_at dksX5_readTrait_0 12 rfl rfl)
theorem dX5_readTrait_13 : decode cX5_readTrait 13 = .ok (.ldc2_w 172, 3) := dk_20 0 172 (dk_at dksX5_readTrait_0 13 rfl rfl)
theorem dX5_readTrait_16 : decode cX5_readTrait 16 = .ok (.ldc2_w 174, 3) := dk_20 0 174 (dk_at dksX5_readTrait_0 16 rfl rfl)
theorem dX5_readTrait_19 : decode cX5_readTrait 19 = .ok (.invokestatic 152, 3) := dk_184 0 152 (dk_at dksX5_readTrait_0 19 rfl rfl)
theorem dX5_readTrait_22 : decode cX5_readTrait 22 = .ok (.ifCond .ne 9, 3) := dk_154 0 9 (dk_at dksX5_readTrait_1 0 rfl rfl)
theorem dX5_readTrait_25 : decode cX5_readTrait 25 = .ok (.aload_n 0, 1) := dk_42 (dk_at dksX5_readTrait_1 3 rfl rfl)
theorem dX5_readTrait_26 : decode cX5_readTrait 26 = .ok (.iconst 2, 1) := dk_5 (dk_at dksX5_readTrait_1 4 rfl rfl)
theorem dX5_readTrait_27 : decode cX5_readTrait 27 = .ok (.invokevirtual 148, 3) := dk_182 0 148 (dk_at dksX5_readTrait_1 5 rfl rfl)
theorem dX5_readTrait_30 : decode cX5_readTrait 30 = .ok (.return_, 1) := dk_177 (dk_at dksX5_readTrait_1 8 rfl rfl)
theorem dX5_readTrait_31 : decode cX5_readTrait 31 = .ok (.aload_n 0, 1) := dk_42 (dk_at dksX5_readTrait_1 9 rfl rfl)
theorem dX5_readTrait_32 : decode cX5_readTrait 32 = .ok (.getfield 27, 3) := dk_180 0 27 (dk_at dksX5_readTrait_1 10 rfl rfl)
theorem dX5_readTrait_35 : decode cX5_readTrait 35 = .ok (.bipush 34, 2) := dk_16 34 (dk_at dksX5_readTrait_1 13 rfl rfl)
theorem dX5_readTrait_37 : decode cX5_readTrait 37 = .ok (.dup2, 1) := dk_92 (dk_at dksX5_readTrait_1 15 rfl rfl)
theorem dX5_readTrait_38 : decode cX5_readTrait 38 = .ok (.iaload, 1) := dk_46 (dk_at dksX5_readTrait_1 16 rfl rfl)
theorem dX5_readTrait_39 : decode cX5_readTrait 39 = .ok (.iconst 1, 1) := dk_4 (dk_at dksX5_readTrait_1 17 rfl rfl)
theorem dX5_readTrait_40 : decode cX5_readTrait 40 = .ok (.aload_n 0, 1) := dk_42 (dk_at dksX5_readTrait_1 18 rfl rfl)
theorem dX5_readTrait_41 : decode cX5_readTrait 41 = .ok (.getfield 117, 3) := dk_180 0 117 (dk_at dksX5_readTrait_1 19 rfl rfl)
theorem dX5_readTrait_44 : decode cX5_readTrait 44 = .ok (.iconst 5, 1) := dk_8 (dk_at dksX5_readTrait_1 22 rfl rfl)
theorem dX5_readTrait_45 : decode cX5_readTrait 45 = .ok (.isub, 1) := dk_100 (dk_at dksX5_readTrait_1 23 rfl rfl)
theorem dX5_readTrait_46 : decode cX5_readTrait 46 = .ok (.ishl, 1) := dk_120 (dk_at dksX5_readTrait_2 0 rfl rfl)
theorem dX5_readTrait_47 : decode cX5_readTrait 47 = .ok (.ior, 1) := dk_128 (dk_at dksX5_readTrait_2 1 rfl rfl)
theorem dX5_readTrait_48 : decode cX5_readTrait 48 = .ok (.iastore, 1) := dk_79 (dk_at dksX5_readTrait_2 2 rfl rfl)
theorem dX5_readTrait_49 : decode cX5_readTrait 49 = .ok (.aload_n 0, 1) := dk_42 (dk_at dksX5_readTrait_2 3 rfl rfl)
theorem dX5_readTrait_50 : decode cX5_readTrait 50 = .ok (.invokevirtual 142, 3) := dk_182 0 142 (dk_at dksX5_readTrait_2 4 rfl rfl)
theorem dX5_readTrait_53 : decode cX5_readTrait 53 = .ok (.return_, 1) := dk_177 (dk_at dksX5_readTrait_2 7 rfl rfl)
abbrev cX5_readLaw : ByteArray := prog_21_method_26_code
def yX5_readLaw : MethodName := ⟨RX5, "readLaw", "()V"⟩
def dkwX5_readLaw_5 : List UInt8 := [96, 79, 177]
abbrev dktX5_readLaw_5 : List UInt8 := dkwX5_readLaw_5 ++ []
def dkwX5_readLaw_4 : List UInt8 := [16, 65, 27, 96, 42, 180, 0, 176, 79, 42, 16, 31, 182, 0, 160, 42, 180, 0, 27, 16, 40, 92, 46, 4]
abbrev dktX5_readLaw_4 : List UInt8 := dkwX5_readLaw_4 ++ dktX5_readLaw_5
def dkwX5_readLaw_3 : List UInt8 := [182, 0, 160, 42, 180, 0, 27, 16, 53, 27, 96, 42, 180, 0, 176, 79, 42, 182, 0, 192, 42, 180, 0, 27]
abbrev dktX5_readLaw_3 : List UInt8 := dkwX5_readLaw_3 ++ dktX5_readLaw_4
def dkwX5_readLaw_2 : List UInt8 := [182, 0, 142, 42, 180, 0, 27, 16, 41, 27, 96, 42, 3, 16, 100, 182, 0, 156, 79, 42, 16, 18]
abbrev dktX5_readLaw_2 : List UInt8 := dkwX5_readLaw_2 ++ dktX5_readLaw_3
def dkwX5_readLaw_1 : List UInt8 := [167, 0, 14, 27, 16, 12, 160, 0, 8, 42, 7, 182, 0, 148, 42, 180, 0, 133, 153, 0, 4, 177, 42]
abbrev dktX5_readLaw_1 : List UInt8 := dkwX5_readLaw_1 ++ dktX5_readLaw_2
def dkwX5_readLaw_0 : List UInt8 := [42, 180, 0, 27, 16, 40, 46, 60, 42, 16, 17, 182, 0, 139, 154, 0, 11, 42, 5, 182, 0, 148]
abbrev dktX5_readLaw_0 : List UInt8 := dkwX5_readLaw_0 ++ dktX5_readLaw_1
theorem dksX5_readLaw_0 : cX5_readLaw.data.toList.drop 0 = dktX5_readLaw_0 := by decide +kernel
theorem dksX5_readLaw_1 : cX5_readLaw.data.toList.drop 22 = dktX5_readLaw_1 := dk_seg dksX5_readLaw_0 22 rfl rfl
theorem dksX5_readLaw_2 : cX5_readLaw.data.toList.drop 45 = dktX5_readLaw_2 := dk_seg dksX5_readLaw_1 23 rfl rfl
theorem dksX5_readLaw_3 : cX5_readLaw.data.toList.drop 67 = dktX5_readLaw_3 := dk_seg dksX5_readLaw_2 22 rfl rfl
theorem dksX5_readLaw_4 : cX5_readLaw.data.toList.drop 91 = dktX5_readLaw_4 := dk_seg dksX5_readLaw_3 24 rfl rfl
theorem dksX5_readLaw_5 : cX5_readLaw.data.toList.drop 115 = dktX5_readLaw_5 := dk_seg dksX5_readLaw_4 24 rfl rfl
theorem dX5_readLaw_0 : decode cX5_readLaw 0 = .ok (.aload_n 0, 1) := dk_42 (dk_at dksX5_readLaw_0 0 rfl rfl)
theorem dX5_readLaw_1 : decode cX5_readLaw 1 = .ok (.getfield 27, 3) := dk_180 0 27 (dk_at dksX5_readLaw_0 1 rfl rfl)
theorem dX5_readLaw_4 : decode cX5_readLaw 4 = .ok (.bipush 40, 2) := dk_16 40 (dk_at dksX5_readLaw_0 4 rfl rfl)
theorem dX5_readLaw_6 : decode cX5_readLaw 6 = .ok (.iaload, 1) := dk_46 (dk_at dksX5_readLaw_0 6 rfl rfl)
theorem dX5_readLaw_7 : decode cX5_readLaw 7 = .ok (.istore_n 1, 1) := dk_60 (dk_at dksX5_readLaw_0 7 rfl rfl)
theorem dX5_readLaw_8 : decode cX5_readLaw 8 = .ok (.aload_n 0, 1) := dk_42 (dk_at dksX5_readLaw_0 8 rfl rfl)
theorem dX5_readLaw_9 : decode cX5_readLaw 9 = .ok (.bipush 17, 2) := dk_16 17 (dk_at dksX5_readLaw_0 9 rfl rfl)
theorem dX5_readLaw_11 : decode cX5_readLaw 11 = .ok (.invokevirtual 139, 3) := dk_182 0 139 (dk_at dksX5_readLaw_0 11 rfl rfl)
theorem dX5_readLaw_14 : decode cX5_readLaw 14 = .ok (.ifCond .ne 11, 3) := dk_154 0 11 (dk_at dksX5_readLaw_0 14 rfl rfl)
theorem dX5_readLaw_17 : decode cX5_readLaw 17 = .ok (.aload_n 0, 1) := dk_42 (dk_at dksX5_readLaw_0 17 rfl rfl)
theorem dX5_readLaw_18 : decode cX5_readLaw 18 = .ok (.iconst 2, 1) := dk_5 (dk_at dksX5_readLaw_0 18 rfl rfl)
theorem dX5_readLaw_19 : decode cX5_readLaw 19 = .ok (.invokevirtual 148, 3) := dk_182 0 148 (dk_at dksX5_readLaw_0 19 rfl rfl)
theorem dX5_readLaw_22 : decode cX5_readLaw 22 = .ok (.goto 14, 3) := dk_167 0 14 (dk_at dksX5_readLaw_1 0 rfl rfl)
theorem dX5_readLaw_25 : decode cX5_readLaw 25 = .ok (.iload_n 1, 1) := dk_27 (dk_at dksX5_readLaw_1 3 rfl rfl)
theorem dX5_readLaw_26 : decode cX5_readLaw 26 = .ok (.bipush 12, 2) := dk_16 12 (dk_at dksX5_readLaw_1 4 rfl rfl)
theorem dX5_readLaw_28 : decode cX5_readLaw 28 = .ok (.if_icmp .ne 8, 3) := dk_160 0 8 (dk_at dksX5_readLaw_1 6 rfl rfl)
theorem dX5_readLaw_31 : decode cX5_readLaw 31 = .ok (.aload_n 0, 1) := dk_42 (dk_at dksX5_readLaw_1 9 rfl rfl)
theorem dX5_readLaw_32 : decode cX5_readLaw 32 = .ok (.iconst 4, 1) := dk_7 (dk_at dksX5_readLaw_1 10 rfl rfl)
theorem dX5_readLaw_33 : decode cX5_readLaw 33 = .ok (.invokevirtual 148, 3) := dk_182 0 148 (dk_at dksX5_readLaw_1 11 rfl rfl)
theorem dX5_readLaw_36 : decode cX5_readLaw 36 = .ok (.aload_n 0, 1) := dk_42 (dk_at dksX5_readLaw_1 14 rfl rfl)
theorem dX5_readLaw_37 : decode cX5_readLaw 37 = .ok (.getfield 133, 3) := dk_180 0 133 (dk_at dksX5_readLaw_1 15 rfl rfl)
theorem dX5_readLaw_40 : decode cX5_readLaw 40 = .ok (.ifCond .eq 4, 3) := dk_153 0 4 (dk_at dksX5_readLaw_1 18 rfl rfl)
theorem dX5_readLaw_43 : decode cX5_readLaw 43 = .ok (.return_, 1) := dk_177 (dk_at dksX5_readLaw_1 21 rfl rfl)
theorem dX5_readLaw_44 : decode cX5_readLaw 44 = .ok (.aload_n 0, 1) := dk_42 (dk_at dksX5_readLaw_1 22 rfl rfl)
theorem dX5_readLaw_45 : decode cX5_readLaw 45 = .ok (.invokevirtual 142, 3) := dk_182 0 142 (dk_at dksX5_readLaw_2 0 rfl rfl)
theorem dX5_readLaw_48 : decode cX5_readLaw 48 = .ok (.aload_n 0, 1) := dk_42 (dk_at dksX5_readLaw_2 3 rfl rfl)
theorem dX5_readLaw_49 : decode cX5_readLaw 49 = .ok (.getfield 27, 3) := dk_180 0 27 (dk_at dksX5_readLaw_2 4 rfl rfl)
theorem dX5_readLaw_52 : decode cX5_readLaw 52 = .ok (.bipush 41, 2) := dk_16 41 (dk_at dksX5_readLaw_2 7 rfl rfl)
theorem dX5_readLaw_54 : decode cX5_readLaw 54 = .ok (.iload_n 1, 1) := dk_27 (dk_at dksX5_readLaw_2 9 rfl rfl)
theorem dX5_readLaw_55 : decode cX5_readLaw 55 = .ok (.iadd, 1) := dk_96 (dk_at dksX5_readLaw_2 10 rfl rfl)
theorem dX5_readLaw_56 : decode cX5_readLaw 56 = .ok (.aload_n 0, 1) := dk_42 (dk_at dksX5_readLaw_2 11 rfl rfl)
theorem dX5_readLaw_57 : decode cX5_readLaw 57 = .ok (.iconst 0, 1) := dk_3 (dk_at dksX5_readLaw_2 12 rfl rfl)
theorem dX5_readLaw_58 : decode cX5_readLaw 58 = .ok (.bipush 100, 2) := dk_16 100 (dk_at dksX5_readLaw_2 13 rfl rfl)
theorem dX5_readLaw_60 : decode cX5_readLaw 60 = .ok (.invokevirtual 156, 3) := dk_182 0 156 (dk_at dksX5_readLaw_2 15 rfl rfl)
theorem dX5_readLaw_63 : decode cX5_readLaw 63 = .ok (.iastore, 1) := dk_79 (dk_at dksX5_readLaw_2 18 rfl rfl)
theorem dX5_readLaw_64 : decode cX5_readLaw 64 = .ok (.aload_n 0, 1) := dk_42 (dk_at dksX5_readLaw_2 19 rfl rfl)
theorem dX5_readLaw_65 : decode cX5_readLaw 65 = .ok (.bipush 18, 2) := dk_16 18 (dk_at dksX5_readLaw_2 20 rfl rfl)
theorem dX5_readLaw_67 : decode cX5_readLaw 67 = .ok (.invokevirtual 160, 3) := dk_182 0 160 (dk_at dksX5_readLaw_3 0 rfl rfl)
theorem dX5_readLaw_70 : decode cX5_readLaw 70 = .ok (.aload_n 0, 1) := dk_42 (dk_at dksX5_readLaw_3 3 rfl rfl)
theorem dX5_readLaw_71 : decode cX5_readLaw 71 = .ok (.getfield 27, 3) := dk_180 0 27 (dk_at dksX5_readLaw_3 4 rfl rfl)
theorem dX5_readLaw_74 : decode cX5_readLaw 74 = .ok (.bipush 53, 2) := dk_16 53 (dk_at dksX5_readLaw_3 7 rfl rfl)
theorem dX5_readLaw_76 : decode cX5_readLaw 76 = .ok (.iload_n 1, 1) := dk_27 (dk_at dksX5_readLaw_3 9 rfl rfl)
theorem dX5_readLaw_77 : decode cX5_readLaw 77 = .ok (.iadd, 1) := dk_96 (dk_at dksX5_readLaw_3 10 rfl rfl)
theorem dX5_readLaw_78 : decode cX5_readLaw 78 = .ok (.aload_n 0, 1) := dk_42 (dk_at dksX5_readLaw_3 11 rfl rfl)
theorem dX5_readLaw_79 : decode cX5_readLaw 79 = .ok (.getfield 176, 3) := dk_180 0 176 (dk_at dksX5_readLaw_3 12 rfl rfl)
theorem dX5_readLaw_82 : decode cX5_readLaw 82 = .ok (.iastore, 1) := dk_79 (dk_at dksX5_readLaw_3 15 rfl rfl)
theorem dX5_readLaw_83 : decode cX5_readLaw 83 = .ok (.aload_n 0, 1) := dk_42 (dk_at dksX5_readLaw_3 16 rfl rfl)
theorem dX5_readLaw_84 : decode cX5_readLaw 84 = .ok (.invokevirtual 192, 3) := dk_182 0 192 (dk_at dksX5_readLaw_3 17 rfl rfl)
theorem dX5_readLaw_87 : decode cX5_readLaw 87 = .ok (.aload_n 0, 1) := dk_42 (dk_at dksX5_readLaw_3 20 rfl rfl)
theorem dX5_readLaw_88 : decode cX5_readLaw 88 = .ok (.getfield 27, 3) := dk_180 0 27 (dk_at dksX5_readLaw_3 21 rfl rfl)
theorem dX5_readLaw_91 : decode cX5_readLaw 91 = .ok (.bipush 65, 2) := dk_16 65 (dk_at dksX5_readLaw_4 0 rfl rfl)
theorem dX5_readLaw_93 : decode cX5_readLaw 93 = .ok (.iload_n 1, 1) := dk_27 (dk_at dksX5_readLaw_4 2 rfl rfl)
theorem dX5_readLaw_94 : decode cX5_readLaw 94 = .ok (.iadd, 1) := dk_96 (dk_at dksX5_readLaw_4 3 rfl rfl)
theorem dX5_readLaw_95 : decode cX5_readLaw 95 = .ok (.aload_n 0, 1) := dk_42 (dk_at dksX5_readLaw_4 4 rfl rfl)
theorem dX5_readLaw_96 : decode cX5_readLaw 96 = .ok (.getfield 176, 3) := dk_180 0 176 (dk_at dksX5_readLaw_4 5 rfl rfl)
theorem dX5_readLaw_99 : decode cX5_readLaw 99 = .ok (.iastore, 1) := dk_79 (dk_at dksX5_readLaw_4 8 rfl rfl)
theorem dX5_readLaw_100 : decode cX5_readLaw 100 = .ok (.aload_n 0, 1) := dk_42 (dk_at dksX5_readLaw_4 9 rfl rfl)
theorem dX5_readLaw_101 : decode cX5_readLaw 101 = .ok (.bipush 31, 2) := dk_16 31 (dk_at dksX5_readLaw_4 10 rfl rfl)
theorem dX5_readLaw_103 : decode cX5_readLaw 103 = .ok (.invokevirtual 160, 3) := dk_182 0 160 (dk_at dksX5_readLaw_4 12 rfl rfl)
theorem dX5_readLaw_106 : decode cX5_readLaw 106 = .ok (.aload_n 0, 1) := dk_42 (dk_at dksX5_readLaw_4 15 rfl rfl)
theorem dX5_readLaw_107 : decode cX5_readLaw 107 = .ok (.getfield 27, 3) := dk_180 0 27 (dk_at dksX5_readLaw_4 16 rfl rfl)
theorem dX5_readLaw_110 : decode cX5_readLaw 110 = .ok (.bipush 40, 2) := dk_16 40 (dk_at dksX5_readLaw_4 19 rfl rfl)
theorem dX5_readLaw_112 : decode cX5_readLaw 112 = .ok (.dup2, 1) := dk_92 (dk_at dksX5_readLaw_4 21 rfl rfl)
theorem dX5_readLaw_113 : decode cX5_readLaw 113 = .ok (.iaload, 1) := dk_46 (dk_at dksX5_readLaw_4 22 rfl rfl)
theorem dX5_readLaw_114 : decode cX5_readLaw 114 = .ok (.iconst 1, 1) := dk_4 (dk_at dksX5_readLaw_4 23 rfl rfl)
theorem dX5_readLaw_115 : decode cX5_readLaw 115 = .ok (.iadd, 1) := dk_96 (dk_at dksX5_readLaw_5 0 rfl rfl)
theorem dX5_readLaw_116 : decode cX5_readLaw 116 = .ok (.iastore, 1) := dk_79 (dk_at dksX5_readLaw_5 1 rfl rfl)
theorem dX5_readLaw_117 : decode cX5_readLaw 117 = .ok (.return_, 1) := dk_177 (dk_at dksX5_readLaw_5 2 rfl rfl)
abbrev cX5_readTest : ByteArray := prog_21_method_23_code
def yX5_readTest : MethodName := ⟨RX5, "readTest", "()V"⟩
def dkwX5_readTest_1 : List UInt8 := [42, 16, 19, 3, 182, 0, 182, 167, 255, 229, 177]
abbrev dktX5_readTest_1 : List UInt8 := dkwX5_readTest_1 ++ []
def dkwX5_readTest_0 : List UInt8 := [42, 182, 0, 179, 42, 16, 19, 182, 0, 145, 153, 0, 24, 42, 182, 0, 179, 42, 180, 0, 133, 154, 255, 239]
abbrev dktX5_readTest_0 : List UInt8 := dkwX5_readTest_0 ++ dktX5_readTest_1
theorem dksX5_readTest_0 : cX5_readTest.data.toList.drop 0 = dktX5_readTest_0 := by decide +kernel
theorem dksX5_readTest_1 : cX5_readTest.data.toList.drop 24 = dktX5_readTest_1 := dk_seg dksX5_readTest_0 24 rfl rfl
theorem dX5_readTest_0 : decode cX5_readTest 0 = .ok (.aload_n 0, 1) := dk_42 (dk_at dksX5_readTest_0 0 rfl rfl)
theorem dX5_readTest_1 : decode cX5_readTest 1 = .ok (.invokevirtual 179, 3) := dk_182 0 179 (dk_at dksX5_readTest_0 1 rfl rfl)
theorem dX5_readTest_4 : decode cX5_readTest 4 = .ok (.aload_n 0, 1) := dk_42 (dk_at dksX5_readTest_0 4 rfl rfl)
theorem dX5_readTest_5 : decode cX5_readTest 5 = .ok (.bipush 19, 2) := dk_16 19 (dk_at dksX5_readTest_0 5 rfl rfl)
theorem dX5_readTest_7 : decode cX5_readTest 7 = .ok (.invokevirtual 145, 3) := dk_182 0 145 (dk_at dksX5_readTest_0 7 rfl rfl)
theorem dX5_readTest_10 : decode cX5_readTest 10 = .ok (.ifCond .eq 24, 3) := dk_153 0 24 (dk_at dksX5_readTest_0 10 rfl rfl)
theorem dX5_readTest_13 : decode cX5_readTest 13 = .ok (.aload_n 0, 1) := dk_42 (dk_at dksX5_readTest_0 13 rfl rfl)
theorem dX5_readTest_14 : decode cX5_readTest 14 = .ok (.invokevirtual 179, 3) := dk_182 0 179 (dk_at dksX5_readTest_0 14 rfl rfl)
theorem dX5_readTest_17 : decode cX5_readTest 17 = .ok (.aload_n 0, 1) := dk_42 (dk_at dksX5_readTest_0 17 rfl rfl)
theorem dX5_readTest_18 : decode cX5_readTest 18 = .ok (.getfield 133, 3) := dk_180 0 133 (dk_at dksX5_readTest_0 18 rfl rfl)
theorem dX5_readTest_21 : decode cX5_readTest 21 = .ok (.ifCond .ne (-17), 3) := dk_154 255 239 (dk_at dksX5_readTest_0 21 rfl rfl)
theorem dX5_readTest_24 : decode cX5_readTest 24 = .ok (.aload_n 0, 1) := dk_42 (dk_at dksX5_readTest_1 0 rfl rfl)
theorem dX5_readTest_25 : decode cX5_readTest 25 = .ok (.bipush 19, 2) := dk_16 19 (dk_at dksX5_readTest_1 1 rfl rfl)
theorem dX5_readTest_27 : decode cX5_readTest 27 = .ok (.iconst 0, 1) := dk_3 (dk_at dksX5_readTest_1 3 rfl rfl)
theorem dX5_readTest_28 : decode cX5_readTest 28 = .ok (.invokevirtual 182, 3) := dk_182 0 182 (dk_at dksX5_readTest_1 4 rfl rfl)
theorem dX5_readTest_31 : decode cX5_readTest 31 = .ok (.goto (-27), 3) := dk_167 255 229 (dk_at dksX5_readTest_1 7 rfl rfl)
theorem dX5_readTest_34 : decode cX5_readTest 34 = .ok (.return_, 1) := dk_177 (dk_at dksX5_readTest_1 10 rfl rfl)
abbrev cX5_readPart : ByteArray := prog_21_method_24_code
def yX5_readPart : MethodName := ⟨RX5, "readPart", "()V"⟩
def dkwX5_readPart_1 : List UInt8 := [42, 16, 20, 3, 182, 0, 182, 167, 255, 229, 177]
abbrev dktX5_readPart_1 : List UInt8 := dkwX5_readPart_1 ++ []
def dkwX5_readPart_0 : List UInt8 := [42, 182, 0, 186, 42, 16, 20, 182, 0, 145, 153, 0, 24, 42, 182, 0, 186, 42, 180, 0, 133, 154, 255, 239]
abbrev dktX5_readPart_0 : List UInt8 := dkwX5_readPart_0 ++ dktX5_readPart_1
theorem dksX5_readPart_0 : cX5_readPart.data.toList.drop 0 = dktX5_readPart_0 := by decide +kernel
theorem dksX5_readPart_1 : cX5_readPart.data.toList.drop 24 = dktX5_readPart_1 := dk_seg dksX5_readPart_0 24 rfl rfl
theorem dX5_readPart_0 : decode cX5_readPart 0 = .ok (.aload_n 0, 1) := dk_42 (dk_at dksX5_readPart_0 0 rfl rfl)
theorem dX5_readPart_1 : decode cX5_readPart 1 = .ok (.invokevirtual 186, 3) := dk_182 0 186 (dk_at dksX5_readPart_0 1 rfl rfl)
theorem dX5_readPart_4 : decode cX5_readPart 4 = .ok (.aload_n 0, 1) := dk_42 (dk_at dksX5_readPart_0 4 rfl rfl)
theorem dX5_readPart_5 : decode cX5_readPart 5 = .ok (.bipush 20, 2) := dk_16 20 (dk_at dksX5_readPart_0 5 rfl rfl)
theorem dX5_readPart_7 : decode cX5_readPart 7 = .ok (.invokevirtual 145, 3) := dk_182 0 145 (dk_at dksX5_readPart_0 7 rfl rfl)
theorem dX5_readPart_10 : decode cX5_readPart 10 = .ok (.ifCond .eq 24, 3) := dk_153 0 24 (dk_at dksX5_readPart_0 10 rfl rfl)
theorem dX5_readPart_13 : decode cX5_readPart 13 = .ok (.aload_n 0, 1) := dk_42 (dk_at dksX5_readPart_0 13 rfl rfl)
theorem dX5_readPart_14 : decode cX5_readPart 14 = .ok (.invokevirtual 186, 3) := dk_182 0 186 (dk_at dksX5_readPart_0 14 rfl rfl)
theorem dX5_readPart_17 : decode cX5_readPart 17 = .ok (.aload_n 0, 1) := dk_42 (dk_at dksX5_readPart_0 17 rfl rfl)
theorem dX5_readPart_18 : decode cX5_readPart 18 = .ok (.getfield 133, 3) := dk_180 0 133 (dk_at dksX5_readPart_0 18 rfl rfl)
theorem dX5_readPart_21 : decode cX5_readPart 21 = .ok (.ifCond .ne (-17), 3) := dk_154 255 239 (dk_at dksX5_readPart_0 21 rfl rfl)
theorem dX5_readPart_24 : decode cX5_readPart 24 = .ok (.aload_n 0, 1) := dk_42 (dk_at dksX5_readPart_1 0 rfl rfl)
theorem dX5_readPart_25 : decode cX5_readPart 25 = .ok (.bipush 20, 2) := dk_16 20 (dk_at dksX5_readPart_1 1 rfl rfl)
theorem dX5_readPart_27 : decode cX5_readPart 27 = .ok (.iconst 0, 1) := dk_3 (dk_at dksX5_readPart_1 3 rfl rfl)
theorem dX5_readPart_28 : decode cX5_readPart 28 = .ok (.invokevirtual 182, 3) := dk_182 0 182 (dk_at dksX5_readPart_1 4 rfl rfl)
theorem dX5_readPart_31 : decode cX5_readPart 31 = .ok (.goto (-27), 3) := dk_167 255 229 (dk_at dksX5_readPart_1 7 rfl rfl)
theorem dX5_readPart_34 : decode cX5_readPart 34 = .ok (.return_, 1) := dk_177 (dk_at dksX5_readPart_1 10 rfl rfl)
abbrev cX5_readFact : ByteArray := prog_21_method_25_code
def yX5_readFact : MethodName := ⟨RX5, "readFact", "()V"⟩
def dkwX5_readFact_9 : List UInt8 := [27, 28, 182, 0, 182, 177]
abbrev dktX5_readFact_9 : List UInt8 := dkwX5_readFact_9 ++ []
def dkwX5_readFact_8 : List UInt8 := [153, 0, 14, 42, 3, 17, 3, 231, 182, 0, 156, 167, 0, 4, 3, 61, 42, 180, 0, 133, 154, 0, 9, 42]
abbrev dktX5_readFact_8 : List UInt8 := dkwX5_readFact_8 ++ dktX5_readFact_9
def dkwX5_readFact_7 : List UInt8 := [153, 0, 4, 177, 42, 182, 0, 142, 27, 7, 159, 0, 17, 27, 133, 20, 0, 195, 20, 0, 199, 184, 0, 152]
abbrev dktX5_readFact_7 : List UInt8 := dkwX5_readFact_7 ++ dktX5_readFact_8
def dkwX5_readFact_6 : List UInt8 := [133, 20, 0, 195, 20, 0, 197, 184, 0, 152, 154, 0, 8, 42, 5, 182, 0, 148, 42, 180, 0, 133]
abbrev dktX5_readFact_6 : List UInt8 := dkwX5_readFact_6 ++ dktX5_readFact_7
def dkwX5_readFact_5 : List UInt8 := [182, 0, 182, 177, 27, 7, 159, 0, 36, 27, 133, 20, 0, 172, 20, 0, 174, 184, 0, 152, 154, 0, 22, 27]
abbrev dktX5_readFact_5 : List UInt8 := dkwX5_readFact_5 ++ dktX5_readFact_6
def dkwX5_readFact_4 : List UInt8 := [160, 0, 12, 42, 16, 33, 182, 0, 160, 167, 0, 17, 42, 180, 0, 133, 154, 0, 10, 42, 16, 21, 3]
abbrev dktX5_readFact_4 : List UInt8 := dkwX5_readFact_4 ++ dktX5_readFact_5
def dkwX5_readFact_3 : List UInt8 := [182, 0, 186, 167, 0, 7, 42, 182, 0, 192, 42, 89, 180, 0, 189, 4, 100, 181, 0, 189, 27, 16, 32]
abbrev dktX5_readFact_3 : List UInt8 := dkwX5_readFact_3 ++ dktX5_readFact_4
def dkwX5_readFact_2 : List UInt8 := [177, 42, 182, 0, 142, 42, 89, 180, 0, 189, 4, 96, 181, 0, 189, 27, 16, 21, 160, 0, 10, 42]
abbrev dktX5_readFact_2 : List UInt8 := dkwX5_readFact_2 ++ dktX5_readFact_3
def dkwX5_readFact_1 : List UInt8 := [160, 0, 96, 42, 180, 0, 189, 16, 8, 160, 0, 8, 42, 8, 182, 0, 148, 42, 180, 0, 133, 153, 0, 4]
abbrev dktX5_readFact_1 : List UInt8 := dkwX5_readFact_1 ++ dktX5_readFact_2
def dkwX5_readFact_0 : List UInt8 := [42, 180, 0, 133, 153, 0, 4, 177, 42, 180, 0, 117, 60, 27, 16, 21, 159, 0, 9, 27, 16, 32]
abbrev dktX5_readFact_0 : List UInt8 := dkwX5_readFact_0 ++ dktX5_readFact_1
theorem dksX5_readFact_0 : cX5_readFact.data.toList.drop 0 = dktX5_readFact_0 := by decide +kernel
theorem dksX5_readFact_1 : cX5_readFact.data.toList.drop 22 = dktX5_readFact_1 := dk_seg dksX5_readFact_0 22 rfl rfl
theorem dksX5_readFact_2 : cX5_readFact.data.toList.drop 46 = dktX5_readFact_2 := dk_seg dksX5_readFact_1 24 rfl rfl
theorem dksX5_readFact_3 : cX5_readFact.data.toList.drop 68 = dktX5_readFact_3 := dk_seg dksX5_readFact_2 22 rfl rfl
theorem dksX5_readFact_4 : cX5_readFact.data.toList.drop 91 = dktX5_readFact_4 := dk_seg dksX5_readFact_3 23 rfl rfl
theorem dksX5_readFact_5 : cX5_readFact.data.toList.drop 114 = dktX5_readFact_5 := dk_seg dksX5_readFact_4 23 rfl rfl
theorem dksX5_readFact_6 : cX5_readFact.data.toList.drop 138 = dktX5_readFact_6 := dk_seg dksX5_readFact_5 24 rfl rfl
theorem dksX5_readFact_7 : cX5_readFact.data.toList.drop 160 = dktX5_readFact_7 := dk_seg dksX5_readFact_6 22 rfl rfl
theorem dksX5_readFact_8 : cX5_readFact.data.toList.drop 184 = dktX5_readFact_8 := dk_seg dksX5_readFact_7 24 rfl rfl
theorem dksX5_readFact_9 : cX5_readFact.data.toList.drop 208 = dktX5_readFact_9 := dk_seg dksX5_readFact_8 24 rfl rfl
theorem dX5_readFact_0 : decode cX5_readFact 0 = .ok (.aload_n 0, 1) := dk_42 (dk_at dksX5_readFact_0 0 rfl rfl)
theorem dX5_readFact_1 : decode cX5_readFact 1 = .ok (.getfield 133, 3) := dk_180 0 133 (dk_at dksX5_readFact_0 1 rfl rfl)
theorem dX5_readFact_4 : decode cX5_readFact 4 = .ok (.ifCond .eq 4, 3) := dk_153 0 4 (dk_at dksX5_readFact_0 4 rfl rfl)
theorem dX5_readFact_7 : decode cX5_readFact 7 = .ok (.return_, 1) := dk_177 (dk_at dksX5_readFact_0 7 rfl rfl)
theorem dX5_readFact_8 : decode cX5_readFact 8 = .ok (.aload_n 0, 1) := dk_42 (dk_at dksX5_readFact_0 8 rfl rfl)
theorem dX5_readFact_9 : decode cX5_readFact 9 = .ok (.getfield 117, 3) := dk_180 0 117 (dk_at dksX5_readFact_0 9 rfl rfl)
theorem dX5_readFact_12 : decode cX5_readFact 12 = .ok (.istore_n 1, 1) := dk_60 (dk_at dksX5_readFact_0 12 rfl rfl)
theorem dX5_readFact_13 : decode cX5_readFact 13 = .ok (.iload_n 1, 1) := dk_27 (dk_at dksX5_readFact_0 13 rfl rfl)
theorem dX5_readFact_14 : decode cX5_readFact 14 = .ok (.bipush 21, 2) := dk_16 21 (dk_at dksX5_readFact_0 14 rfl rfl)
theorem dX5_readFact_16 : decode cX5_readFact 16 = .ok (.if_icmp .eq 9, 3) := dk_159 0 9 (dk_at dksX5_readFact_0 16 rfl rfl)
theorem dX5_readFact_19 : decode cX5_readFact 19 = .ok (.iload_n 1, 1) := dk_27 (dk_at dksX5_readFact_0 19 rfl rfl)
theorem dX5_readFact_20 : decode cX5_readFact 20 = .ok (.bipush 32, 2) := dk_16 32 (dk_at dksX5_readFact_0 20 rfl rfl)
theorem dX5_readFact_22 : decode cX5_readFact 22 = .ok (.if_icmp .ne 96, 3) := dk_160 0 96 (dk_at dksX5_readFact_1 0 rfl rfl)
theorem dX5_readFact_25 : decode cX5_readFact 25 = .ok (.aload_n 0, 1) := dk_42 (dk_at dksX5_readFact_1 3 rfl rfl)
theorem dX5_readFact_26 : decode cX5_readFact 26 = .ok (.getfield 189, 3) := dk_180 0 189 (dk_at dksX5_readFact_1 4 rfl rfl)
theorem dX5_readFact_29 : decode cX5_readFact 29 = .ok (.bipush 8, 2) := dk_16 8 (dk_at dksX5_readFact_1 7 rfl rfl)
theorem dX5_readFact_31 : decode cX5_readFact 31 = .ok (.if_icmp .ne 8, 3) := dk_160 0 8 (dk_at dksX5_readFact_1 9 rfl rfl)
theorem dX5_readFact_34 : decode cX5_readFact 34 = .ok (.aload_n 0, 1) := dk_42 (dk_at dksX5_readFact_1 12 rfl rfl)
theorem dX5_readFact_35 : decode cX5_readFact 35 = .ok (.iconst 5, 1) := dk_8 (dk_at dksX5_readFact_1 13 rfl rfl)
theorem dX5_readFact_36 : decode cX5_readFact 36 = .ok (.invokevirtual 148, 3) := dk_182 0 148 (dk_at dksX5_readFact_1 14 rfl rfl)
theorem dX5_readFact_39 : decode cX5_readFact 39 = .ok (.aload_n 0, 1) := dk_42 (dk_at dksX5_readFact_1 17 rfl rfl)
theorem dX5_readFact_40 : decode cX5_readFact 40 = .ok (.getfield 133, 3) := dk_180 0 133 (dk_at dksX5_readFact_1 18 rfl rfl)
theorem dX5_readFact_43 : decode cX5_readFact 43 = .ok (.ifCond .eq 4, 3) := dk_153 0 4 (dk_at dksX5_readFact_1 21 rfl rfl)
theorem dX5_readFact_46 : decode cX5_readFact 46 = .ok (.return_, 1) := dk_177 (dk_at dksX5_readFact_2 0 rfl rfl)
theorem dX5_readFact_47 : decode cX5_readFact 47 = .ok (.aload_n 0, 1) := dk_42 (dk_at dksX5_readFact_2 1 rfl rfl)
theorem dX5_readFact_48 : decode cX5_readFact 48 = .ok (.invokevirtual 142, 3) := dk_182 0 142 (dk_at dksX5_readFact_2 2 rfl rfl)
theorem dX5_readFact_51 : decode cX5_readFact 51 = .ok (.aload_n 0, 1) := dk_42 (dk_at dksX5_readFact_2 5 rfl rfl)
theorem dX5_readFact_52 : decode cX5_readFact 52 = .ok (.dup, 1) := dk_89 (dk_at dksX5_readFact_2 6 rfl rfl)
theorem dX5_readFact_53 : decode cX5_readFact 53 = .ok (.getfield 189, 3) := dk_180 0 189 (dk_at dksX5_readFact_2 7 rfl rfl)
theorem dX5_readFact_56 : decode cX5_readFact 56 = .ok (.iconst 1, 1) := dk_4 (dk_at dksX5_readFact_2 10 rfl rfl)
theorem dX5_readFact_57 : decode cX5_readFact 57 = .ok (.iadd, 1) := dk_96 (dk_at dksX5_readFact_2 11 rfl rfl)
theorem dX5_readFact_58 : decode cX5_readFact 58 = .ok (.putfield 189, 3) := dk_181 0 189 (dk_at dksX5_readFact_2 12 rfl rfl)
theorem dX5_readFact_61 : decode cX5_readFact 61 = .ok (.iload_n 1, 1) := dk_27 (dk_at dksX5_readFact_2 15 rfl rfl)
theorem dX5_readFact_62 : decode cX5_readFact 62 = .ok (.bipush 21, 2) := dk_16 21 (dk_at dksX5_readFact_2 16 rfl rfl)
theorem dX5_readFact_64 : decode cX5_readFact 64 = .ok (.if_icmp .ne 10, 3) := dk_160 0 10 (dk_at dksX5_readFact_2 18 rfl rfl)
theorem dX5_readFact_67 : decode cX5_readFact 67 = .ok (.aload_n 0, 1) := dk_42 (dk_at dksX5_readFact_2 21 rfl rfl)
theorem dX5_readFact_68 : decode cX5_readFact 68 = .ok (.invokevirtual 186, 3) := dk_182 0 186 (dk_at dksX5_readFact_3 0 rfl rfl)
theorem dX5_readFact_71 : decode cX5_readFact 71 = .ok (.goto 7, 3) := dk_167 0 7 (dk_at dksX5_readFact_3 3 rfl rfl)
theorem dX5_readFact_74 : decode cX5_readFact 74 = .ok (.aload_n 0, 1) := dk_42 (dk_at dksX5_readFact_3 6 rfl rfl)
theorem dX5_readFact_75 : decode cX5_readFact 75 = .ok (.invokevirtual 192, 3) := dk_182 0 192 (dk_at dksX5_readFact_3 7 rfl rfl)
theorem dX5_readFact_78 : decode cX5_readFact 78 = .ok (.aload_n 0, 1) := dk_42 (dk_at dksX5_readFact_3 10 rfl rfl)
theorem dX5_readFact_79 : decode cX5_readFact 79 = .ok (.dup, 1) := dk_89 (dk_at dksX5_readFact_3 11 rfl rfl)
theorem dX5_readFact_80 : decode cX5_readFact 80 = .ok (.getfield 189, 3) := dk_180 0 189 (dk_at dksX5_readFact_3 12 rfl rfl)
theorem dX5_readFact_83 : decode cX5_readFact 83 = .ok (.iconst 1, 1) := dk_4 (dk_at dksX5_readFact_3 15 rfl rfl)
theorem dX5_readFact_84 : decode cX5_readFact 84 = .ok (.isub, 1) := dk_100 (dk_at dksX5_readFact_3 16 rfl rfl)
theorem dX5_readFact_85 : decode cX5_readFact 85 = .ok (.putfield 189, 3) := dk_181 0 189 (dk_at dksX5_readFact_3 17 rfl rfl)
theorem dX5_readFact_88 : decode cX5_readFact 88 = .ok (.iload_n 1, 1) := dk_27 (dk_at dksX5_readFact_3 20 rfl rfl)
theorem dX5_readFact_89 : decode cX5_readFact 89 = .ok (.bipush 32, 2) := dk_16 32 (dk_at dksX5_readFact_3 21 rfl rfl)
theorem dX5_readFact_91 : decode cX5_readFact 91 = .ok (.if_icmp .ne 12, 3) := dk_160 0 12 (dk_at dksX5_readFact_4 0 rfl rfl)
theorem dX5_readFact_94 : decode cX5_readFact 94 = .ok (.aload_n 0, 1) := dk_42 (dk_at dksX5_readFact_4 3 rfl rfl)
theorem dX5_readFact_95 : decode cX5_readFact 95 = .ok (.bipush 33, 2) := dk_16 33 (dk_at dksX5_readFact_4 4 rfl rfl)
theorem dX5_readFact_97 : decode cX5_readFact 97 = .ok (.invokevirtual 160, 3) := dk_182 0 160 (dk_at dksX5_readFact_4 6 rfl rfl)
theorem dX5_readFact_100 : decode cX5_readFact 100 = .ok (.goto 17, 3) := dk_167 0 17 (dk_at dksX5_readFact_4 9 rfl rfl)
theorem dX5_readFact_103 : decode cX5_readFact 103 = .ok (.aload_n 0, 1) := dk_42 (dk_at dksX5_readFact_4 12 rfl rfl)
theorem dX5_readFact_104 : decode cX5_readFact 104 = .ok (.getfield 133, 3) := dk_180 0 133 (dk_at dksX5_readFact_4 13 rfl rfl)
theorem dX5_readFact_107 : decode cX5_readFact 107 = .ok (.ifCond .ne 10, 3) := dk_154 0 10 (dk_at dksX5_readFact_4 16 rfl rfl)
theorem dX5_readFact_110 : decode cX5_readFact 110 = .ok (.aload_n 0, 1) := dk_42 (dk_at dksX5_readFact_4 19 rfl rfl)
theorem dX5_readFact_111 : decode cX5_readFact 111 = .ok (.bipush 21, 2) := dk_16 21 (dk_at dksX5_readFact_4 20 rfl rfl)
theorem dX5_readFact_113 : decode cX5_readFact 113 = .ok (.iconst 0, 1) := dk_3 (dk_at dksX5_readFact_4 22 rfl rfl)
theorem dX5_readFact_114 : decode cX5_readFact 114 = .ok (.invokevirtual 182, 3) := dk_182 0 182 (dk_at dksX5_readFact_5 0 rfl rfl)
theorem dX5_readFact_117 : decode cX5_readFact 117 = .ok (.return_, 1) := dk_177 (dk_at dksX5_readFact_5 3 rfl rfl)
theorem dX5_readFact_118 : decode cX5_readFact 118 = .ok (.iload_n 1, 1) := dk_27 (dk_at dksX5_readFact_5 4 rfl rfl)
theorem dX5_readFact_119 : decode cX5_readFact 119 = .ok (.iconst 4, 1) := dk_7 (dk_at dksX5_readFact_5 5 rfl rfl)
theorem dX5_readFact_120 : decode cX5_readFact 120 = .ok (.if_icmp .eq 36, 3) := dk_159 0 36 (dk_at dksX5_readFact_5 6 rfl rfl)
theorem dX5_readFact_123 : decode cX5_readFact 123 = .ok (.iload_n 1, 1) := dk_27 (dk_at dksX5_readFact_5 9 rfl rfl)
theorem dX5_readFact_124 : decode cX5_readFact 124 = .ok (.i2l, 1) := dk_133 (dk_at dksX5_readFact_5 10 rfl rfl)
theorem dX5_readFact_125 : decode cX5_readFact 125 = .ok (.ldc2_w 172, 3) := dk_20 0 172 (dk_at dksX5_readFact_5 11 rfl rfl)
theorem dX5_readFact_128 : decode cX5_readFact 128 = .ok (.ldc2_w 174, 3) := dk_20 0 174 (dk_at dksX5_readFact_5 14 rfl rfl)
theorem dX5_readFact_131 : decode cX5_readFact 131 = .ok (.invokestatic 152, 3) := dk_184 0 152 (dk_at dksX5_readFact_5 17 rfl rfl)
theorem dX5_readFact_134 : decode cX5_readFact 134 = .ok (.ifCond .ne 22, 3) := dk_154 0 22 (dk_at dksX5_readFact_5 20 rfl rfl)
theorem dX5_readFact_137 : decode cX5_readFact 137 = .ok (.iload_n 1, 1) := dk_27 (dk_at dksX5_readFact_5 23 rfl rfl)
theorem dX5_readFact_138 : decode cX5_readFact 138 = .ok (.i2l, 1) := dk_133 (dk_at dksX5_readFact_6 0 rfl rfl)
theorem dX5_readFact_139 : decode cX5_readFact 139 = .ok (.ldc2_w 195, 3) := dk_20 0 195 (dk_at dksX5_readFact_6 1 rfl rfl)
theorem dX5_readFact_142 : decode cX5_readFact 142 = .ok (.ldc2_w 197, 3) := dk_20 0 197 (dk_at dksX5_readFact_6 4 rfl rfl)
theorem dX5_readFact_145 : decode cX5_readFact 145 = .ok (.invokestatic 152, 3) := dk_184 0 152 (dk_at dksX5_readFact_6 7 rfl rfl)
theorem dX5_readFact_148 : decode cX5_readFact 148 = .ok (.ifCond .ne 8, 3) := dk_154 0 8 (dk_at dksX5_readFact_6 10 rfl rfl)
theorem dX5_readFact_151 : decode cX5_readFact 151 = .ok (.aload_n 0, 1) := dk_42 (dk_at dksX5_readFact_6 13 rfl rfl)
theorem dX5_readFact_152 : decode cX5_readFact 152 = .ok (.iconst 2, 1) := dk_5 (dk_at dksX5_readFact_6 14 rfl rfl)
theorem dX5_readFact_153 : decode cX5_readFact 153 = .ok (.invokevirtual 148, 3) := dk_182 0 148 (dk_at dksX5_readFact_6 15 rfl rfl)
theorem dX5_readFact_156 : decode cX5_readFact 156 = .ok (.aload_n 0, 1) := dk_42 (dk_at dksX5_readFact_6 18 rfl rfl)
theorem dX5_readFact_157 : decode cX5_readFact 157 = .ok (.getfield 133, 3) := dk_180 0 133 (dk_at dksX5_readFact_6 19 rfl rfl)
theorem dX5_readFact_160 : decode cX5_readFact 160 = .ok (.ifCond .eq 4, 3) := dk_153 0 4 (dk_at dksX5_readFact_7 0 rfl rfl)
theorem dX5_readFact_163 : decode cX5_readFact 163 = .ok (.return_, 1) := dk_177 (dk_at dksX5_readFact_7 3 rfl rfl)
theorem dX5_readFact_164 : decode cX5_readFact 164 = .ok (.aload_n 0, 1) := dk_42 (dk_at dksX5_readFact_7 4 rfl rfl)
theorem dX5_readFact_165 : decode cX5_readFact 165 = .ok (.invokevirtual 142, 3) := dk_182 0 142 (dk_at dksX5_readFact_7 5 rfl rfl)
theorem dX5_readFact_168 : decode cX5_readFact 168 = .ok (.iload_n 1, 1) := dk_27 (dk_at dksX5_readFact_7 8 rfl rfl)
theorem dX5_readFact_169 : decode cX5_readFact 169 = .ok (.iconst 4, 1) := dk_7 (dk_at dksX5_readFact_7 9 rfl rfl)
theorem dX5_readFact_170 : decode cX5_readFact 170 = .ok (.if_icmp .eq 17, 3) := dk_159 0 17 (dk_at dksX5_readFact_7 10 rfl rfl)
theorem dX5_readFact_173 : decode cX5_readFact 173 = .ok (.iload_n 1, 1) := dk_27 (dk_at dksX5_readFact_7 13 rfl rfl)
theorem dX5_readFact_174 : decode cX5_readFact 174 = .ok (.i2l, 1) := dk_133 (dk_at dksX5_readFact_7 14 rfl rfl)
theorem dX5_readFact_175 : decode cX5_readFact 175 = .ok (.ldc2_w 195, 3) := dk_20 0 195 (dk_at dksX5_readFact_7 15 rfl rfl)
theorem dX5_readFact_178 : decode cX5_readFact 178 = .ok (.ldc2_w 199, 3) := dk_20 0 199 (dk_at dksX5_readFact_7 18 rfl rfl)
theorem dX5_readFact_181 : decode cX5_readFact 181 = .ok (.invokestatic 152, 3) := dk_184 0 152 (dk_at dksX5_readFact_7 21 rfl rfl)
theorem dX5_readFact_184 : decode cX5_readFact 184 = .ok (.ifCond .eq 14, 3) := dk_153 0 14 (dk_at dksX5_readFact_8 0 rfl rfl)
theorem dX5_readFact_187 : decode cX5_readFact 187 = .ok (.aload_n 0, 1) := dk_42 (dk_at dksX5_readFact_8 3 rfl rfl)
theorem dX5_readFact_188 : decode cX5_readFact 188 = .ok (.iconst 0, 1) := dk_3 (dk_at dksX5_readFact_8 4 rfl rfl)
theorem dX5_readFact_189 : decode cX5_readFact 189 = .ok (.sipush 999, 3) := dk_17 3 231 (dk_at dksX5_readFact_8 5 rfl rfl)
theorem dX5_readFact_192 : decode cX5_readFact 192 = .ok (.invokevirtual 156, 3) := dk_182 0 156 (dk_at dksX5_readFact_8 8 rfl rfl)
theorem dX5_readFact_195 : decode cX5_readFact 195 = .ok (.goto 4, 3) := dk_167 0 4 (dk_at dksX5_readFact_8 11 rfl rfl)
theorem dX5_readFact_198 : decode cX5_readFact 198 = .ok (.iconst 0, 1) := dk_3 (dk_at dksX5_readFact_8 14 rfl rfl)
theorem dX5_readFact_199 : decode cX5_readFact 199 = .ok (.istore_n 2, 1) := dk_61 (dk_at dksX5_readFact_8 15 rfl rfl)
theorem dX5_readFact_200 : decode cX5_readFact 200 = .ok (.aload_n 0, 1) := dk_42 (dk_at dksX5_readFact_8 16 rfl rfl)
theorem dX5_readFact_201 : decode cX5_readFact 201 = .ok (.getfield 133, 3) := dk_180 0 133 (dk_at dksX5_readFact_8 17 rfl rfl)
theorem dX5_readFact_204 : decode cX5_readFact 204 = .ok (.ifCond .ne 9, 3) := dk_154 0 9 (dk_at dksX5_readFact_8 20 rfl rfl)
theorem dX5_readFact_207 : decode cX5_readFact 207 = .ok (.aload_n 0, 1) := dk_42 (dk_at dksX5_readFact_8 23 rfl rfl)
theorem dX5_readFact_208 : decode cX5_readFact 208 = .ok (.iload_n 1, 1) := dk_27 (dk_at dksX5_readFact_9 0 rfl rfl)
theorem dX5_readFact_209 : decode cX5_readFact 209 = .ok (.iload_n 2, 1) := dk_28 (dk_at dksX5_readFact_9 1 rfl rfl)
theorem dX5_readFact_210 : decode cX5_readFact 210 = .ok (.invokevirtual 182, 3) := dk_182 0 182 (dk_at dksX5_readFact_9 2 rfl rfl)
theorem dX5_readFact_213 : decode cX5_readFact 213 = .ok (.return_, 1) := dk_177 (dk_at dksX5_readFact_9 5 rfl rfl)
abbrev cX5_emit : ByteArray := prog_21_method_22_code
def yX5_emit : MethodName := ⟨RX5, "emit", "(II)V"⟩
def dkwX5_emit_1 : List UInt8 := [180, 0, 176, 104, 96, 4, 96, 28, 79, 42, 89, 180, 0, 176, 4, 96, 181, 0, 176, 177]
abbrev dktX5_emit_1 : List UInt8 := dkwX5_emit_1 ++ []
def dkwX5_emit_0 : List UInt8 := [42, 180, 0, 27, 16, 77, 5, 42, 180, 0, 176, 104, 96, 27, 79, 42, 180, 0, 27, 16, 77, 5, 42]
abbrev dktX5_emit_0 : List UInt8 := dkwX5_emit_0 ++ dktX5_emit_1
theorem dksX5_emit_0 : cX5_emit.data.toList.drop 0 = dktX5_emit_0 := by decide +kernel
theorem dksX5_emit_1 : cX5_emit.data.toList.drop 23 = dktX5_emit_1 := dk_seg dksX5_emit_0 23 rfl rfl
theorem dX5_emit_0 : decode cX5_emit 0 = .ok (.aload_n 0, 1) := dk_42 (dk_at dksX5_emit_0 0 rfl rfl)
theorem dX5_emit_1 : decode cX5_emit 1 = .ok (.getfield 27, 3) := dk_180 0 27 (dk_at dksX5_emit_0 1 rfl rfl)
theorem dX5_emit_4 : decode cX5_emit 4 = .ok (.bipush 77, 2) := dk_16 77 (dk_at dksX5_emit_0 4 rfl rfl)
theorem dX5_emit_6 : decode cX5_emit 6 = .ok (.iconst 2, 1) := dk_5 (dk_at dksX5_emit_0 6 rfl rfl)
theorem dX5_emit_7 : decode cX5_emit 7 = .ok (.aload_n 0, 1) := dk_42 (dk_at dksX5_emit_0 7 rfl rfl)
theorem dX5_emit_8 : decode cX5_emit 8 = .ok (.getfield 176, 3) := dk_180 0 176 (dk_at dksX5_emit_0 8 rfl rfl)
theorem dX5_emit_11 : decode cX5_emit 11 = .ok (.imul, 1) := dk_104 (dk_at dksX5_emit_0 11 rfl rfl)
theorem dX5_emit_12 : decode cX5_emit 12 = .ok (.iadd, 1) := dk_96 (dk_at dksX5_emit_0 12 rfl rfl)
theorem dX5_emit_13 : decode cX5_emit 13 = .ok (.iload_n 1, 1) := dk_27 (dk_at dksX5_emit_0 13 rfl rfl)
theorem dX5_emit_14 : decode cX5_emit 14 = .ok (.iastore, 1) := dk_79 (dk_at dksX5_emit_0 14 rfl rfl)
theorem dX5_emit_15 : decode cX5_emit 15 = .ok (.aload_n 0, 1) := dk_42 (dk_at dksX5_emit_0 15 rfl rfl)
theorem dX5_emit_16 : decode cX5_emit 16 = .ok (.getfield 27, 3) := dk_180 0 27 (dk_at dksX5_emit_0 16 rfl rfl)
theorem dX5_emit_19 : decode cX5_emit 19 = .ok (.bipush 77, 2) := dk_16 77 (dk_at dksX5_emit_0 19 rfl rfl)
theorem dX5_emit_21 : decode cX5_emit 21 = .ok (.iconst 2, 1) := dk_5 (dk_at dksX5_emit_0 21 rfl rfl)
theorem dX5_emit_22 : decode cX5_emit 22 = .ok (.aload_n 0, 1) := dk_42 (dk_at dksX5_emit_0 22 rfl rfl)
theorem dX5_emit_23 : decode cX5_emit 23 = .ok (.getfield 176, 3) := dk_180 0 176 (dk_at dksX5_emit_1 0 rfl rfl)
theorem dX5_emit_26 : decode cX5_emit 26 = .ok (.imul, 1) := dk_104 (dk_at dksX5_emit_1 3 rfl rfl)
theorem dX5_emit_27 : decode cX5_emit 27 = .ok (.iadd, 1) := dk_96 (dk_at dksX5_emit_1 4 rfl rfl)
theorem dX5_emit_28 : decode cX5_emit 28 = .ok (.iconst 1, 1) := dk_4 (dk_at dksX5_emit_1 5 rfl rfl)
theorem dX5_emit_29 : decode cX5_emit 29 = .ok (.iadd, 1) := dk_96 (dk_at dksX5_emit_1 6 rfl rfl)
theorem dX5_emit_30 : decode cX5_emit 30 = .ok (.iload_n 2, 1) := dk_28 (dk_at dksX5_emit_1 7 rfl rfl)
theorem dX5_emit_31 : decode cX5_emit 31 = .ok (.iastore, 1) := dk_79 (dk_at dksX5_emit_1 8 rfl rfl)
theorem dX5_emit_32 : decode cX5_emit 32 = .ok (.aload_n 0, 1) := dk_42 (dk_at dksX5_emit_1 9 rfl rfl)
theorem dX5_emit_33 : decode cX5_emit 33 = .ok (.dup, 1) := dk_89 (dk_at dksX5_emit_1 10 rfl rfl)
theorem dX5_emit_34 : decode cX5_emit 34 = .ok (.getfield 176, 3) := dk_180 0 176 (dk_at dksX5_emit_1 11 rfl rfl)
theorem dX5_emit_37 : decode cX5_emit 37 = .ok (.iconst 1, 1) := dk_4 (dk_at dksX5_emit_1 14 rfl rfl)
theorem dX5_emit_38 : decode cX5_emit 38 = .ok (.iadd, 1) := dk_96 (dk_at dksX5_emit_1 15 rfl rfl)
theorem dX5_emit_39 : decode cX5_emit 39 = .ok (.putfield 176, 3) := dk_181 0 176 (dk_at dksX5_emit_1 16 rfl rfl)
theorem dX5_emit_42 : decode cX5_emit 42 = .ok (.return_, 1) := dk_177 (dk_at dksX5_emit_1 19 rfl rfl)
abbrev cX5_fault : ByteArray := prog_21_method_28_code
def yX5_fault : MethodName := ⟨RX5, "fault", "(I)I"⟩
def dkwX5_fault_1 : List UInt8 := [180, 0, 30, 167, 0, 4, 2, 172]
abbrev dktX5_fault_1 : List UInt8 := dkwX5_fault_1 ++ []
def dkwX5_fault_0 : List UInt8 := [42, 3, 181, 0, 1, 27, 154, 0, 10, 42, 180, 0, 207, 167, 0, 16, 27, 4, 160, 0, 10, 42]
abbrev dktX5_fault_0 : List UInt8 := dkwX5_fault_0 ++ dktX5_fault_1
theorem dksX5_fault_0 : cX5_fault.data.toList.drop 0 = dktX5_fault_0 := by decide +kernel
theorem dksX5_fault_1 : cX5_fault.data.toList.drop 22 = dktX5_fault_1 := dk_seg dksX5_fault_0 22 rfl rfl
theorem dX5_fault_0 : decode cX5_fault 0 = .ok (.aload_n 0, 1) := dk_42 (dk_at dksX5_fault_0 0 rfl rfl)
theorem dX5_fault_1 : decode cX5_fault 1 = .ok (.iconst 0, 1) := dk_3 (dk_at dksX5_fault_0 1 rfl rfl)
theorem dX5_fault_2 : decode cX5_fault 2 = .ok (.putfield 1, 3) := dk_181 0 1 (dk_at dksX5_fault_0 2 rfl rfl)
theorem dX5_fault_5 : decode cX5_fault 5 = .ok (.iload_n 1, 1) := dk_27 (dk_at dksX5_fault_0 5 rfl rfl)
theorem dX5_fault_6 : decode cX5_fault 6 = .ok (.ifCond .ne 10, 3) := dk_154 0 10 (dk_at dksX5_fault_0 6 rfl rfl)
theorem dX5_fault_9 : decode cX5_fault 9 = .ok (.aload_n 0, 1) := dk_42 (dk_at dksX5_fault_0 9 rfl rfl)
theorem dX5_fault_10 : decode cX5_fault 10 = .ok (.getfield 207, 3) := dk_180 0 207 (dk_at dksX5_fault_0 10 rfl rfl)
theorem dX5_fault_13 : decode cX5_fault 13 = .ok (.goto 16, 3) := dk_167 0 16 (dk_at dksX5_fault_0 13 rfl rfl)
theorem dX5_fault_16 : decode cX5_fault 16 = .ok (.iload_n 1, 1) := dk_27 (dk_at dksX5_fault_0 16 rfl rfl)
theorem dX5_fault_17 : decode cX5_fault 17 = .ok (.iconst 1, 1) := dk_4 (dk_at dksX5_fault_0 17 rfl rfl)
theorem dX5_fault_18 : decode cX5_fault 18 = .ok (.if_icmp .ne 10, 3) := dk_160 0 10 (dk_at dksX5_fault_0 18 rfl rfl)
theorem dX5_fault_21 : decode cX5_fault 21 = .ok (.aload_n 0, 1) := dk_42 (dk_at dksX5_fault_0 21 rfl rfl)
theorem dX5_fault_22 : decode cX5_fault 22 = .ok (.getfield 30, 3) := dk_180 0 30 (dk_at dksX5_fault_1 0 rfl rfl)
theorem dX5_fault_25 : decode cX5_fault 25 = .ok (.goto 4, 3) := dk_167 0 4 (dk_at dksX5_fault_1 3 rfl rfl)
theorem dX5_fault_28 : decode cX5_fault 28 = .ok (.iconst (-1), 1) := dk_2 (dk_at dksX5_fault_1 6 rfl rfl)
theorem dX5_fault_29 : decode cX5_fault 29 = .ok (.ireturn, 1) := dk_172 (dk_at dksX5_fault_1 7 rfl rfl)
abbrev cX5_car : ByteArray := prog_21_method_30_code
def yX5_car : MethodName := ⟨RX5, "car", "(II)I"⟩
def dkwX5_car_1 : List UInt8 := [154, 0, 10, 42, 16, 254, 182, 0, 89, 172, 42, 180, 0, 17, 5, 16, 8, 28, 104, 96, 27, 96, 46, 172]
abbrev dktX5_car_1 : List UInt8 := dkwX5_car_1 ++ []
def dkwX5_car_0 : List UInt8 := [42, 3, 181, 0, 1, 42, 27, 182, 0, 210, 153, 0, 15, 28, 133, 9, 20, 0, 213, 184, 0, 152]
abbrev dktX5_car_0 : List UInt8 := dkwX5_car_0 ++ dktX5_car_1
theorem dksX5_car_0 : cX5_car.data.toList.drop 0 = dktX5_car_0 := by decide +kernel
theorem dksX5_car_1 : cX5_car.data.toList.drop 22 = dktX5_car_1 := dk_seg dksX5_car_0 22 rfl rfl
theorem dX5_car_0 : decode cX5_car 0 = .ok (.aload_n 0, 1) := dk_42 (dk_at dksX5_car_0 0 rfl rfl)
theorem dX5_car_1 : decode cX5_car 1 = .ok (.iconst 0, 1) := dk_3 (dk_at dksX5_car_0 1 rfl rfl)
theorem dX5_car_2 : decode cX5_car 2 = .ok (.putfield 1, 3) := dk_181 0 1 (dk_at dksX5_car_0 2 rfl rfl)
theorem dX5_car_5 : decode cX5_car 5 = .ok (.aload_n 0, 1) := dk_42 (dk_at dksX5_car_0 5 rfl rfl)
theorem dX5_car_6 : decode cX5_car 6 = .ok (.iload_n 1, 1) := dk_27 (dk_at dksX5_car_0 6 rfl rfl)
theorem dX5_car_7 : decode cX5_car 7 = .ok (.invokevirtual 210, 3) := dk_182 0 210 (dk_at dksX5_car_0 7 rfl rfl)
theorem dX5_car_10 : decode cX5_car 10 = .ok (.ifCond .eq 15, 3) := dk_153 0 15 (dk_at dksX5_car_0 10 rfl rfl)
theorem dX5_car_13 : decode cX5_car 13 = .ok (.iload_n 2, 1) := dk_28 (dk_at dksX5_car_0 13 rfl rfl)
theorem dX5_car_14 : decode cX5_car 14 = .ok (.i2l, 1) := dk_133 (dk_at dksX5_car_0 14 rfl rfl)
theorem dX5_car_15 : decode cX5_car 15 = .ok (.lconst 0, 1) := dk_9 (dk_at dksX5_car_0 15 rfl rfl)
theorem dX5_car_16 : decode cX5_car 16 = .ok (.ldc2_w 213, 3) := dk_20 0 213 (dk_at dksX5_car_0 16 rfl rfl)
theorem dX5_car_19 : decode cX5_car 19 = .ok (.invokestatic 152, 3) := dk_184 0 152 (dk_at dksX5_car_0 19 rfl rfl)
theorem dX5_car_22 : decode cX5_car 22 = .ok (.ifCond .ne 10, 3) := dk_154 0 10 (dk_at dksX5_car_1 0 rfl rfl)
theorem dX5_car_25 : decode cX5_car 25 = .ok (.aload_n 0, 1) := dk_42 (dk_at dksX5_car_1 3 rfl rfl)
theorem dX5_car_26 : decode cX5_car 26 = .ok (.bipush (-2), 2) := dk_16 254 (dk_at dksX5_car_1 4 rfl rfl)
theorem dX5_car_28 : decode cX5_car 28 = .ok (.invokevirtual 89, 3) := dk_182 0 89 (dk_at dksX5_car_1 6 rfl rfl)
theorem dX5_car_31 : decode cX5_car 31 = .ok (.ireturn, 1) := dk_172 (dk_at dksX5_car_1 9 rfl rfl)
theorem dX5_car_32 : decode cX5_car 32 = .ok (.aload_n 0, 1) := dk_42 (dk_at dksX5_car_1 10 rfl rfl)
theorem dX5_car_33 : decode cX5_car 33 = .ok (.getfield 17, 3) := dk_180 0 17 (dk_at dksX5_car_1 11 rfl rfl)
theorem dX5_car_36 : decode cX5_car 36 = .ok (.iconst 2, 1) := dk_5 (dk_at dksX5_car_1 14 rfl rfl)
theorem dX5_car_37 : decode cX5_car 37 = .ok (.bipush 8, 2) := dk_16 8 (dk_at dksX5_car_1 15 rfl rfl)
theorem dX5_car_39 : decode cX5_car 39 = .ok (.iload_n 2, 1) := dk_28 (dk_at dksX5_car_1 17 rfl rfl)
theorem dX5_car_40 : decode cX5_car 40 = .ok (.imul, 1) := dk_104 (dk_at dksX5_car_1 18 rfl rfl)
theorem dX5_car_41 : decode cX5_car 41 = .ok (.iadd, 1) := dk_96 (dk_at dksX5_car_1 19 rfl rfl)
theorem dX5_car_42 : decode cX5_car 42 = .ok (.iload_n 1, 1) := dk_27 (dk_at dksX5_car_1 20 rfl rfl)
theorem dX5_car_43 : decode cX5_car 43 = .ok (.iadd, 1) := dk_96 (dk_at dksX5_car_1 21 rfl rfl)
theorem dX5_car_44 : decode cX5_car 44 = .ok (.iaload, 1) := dk_46 (dk_at dksX5_car_1 22 rfl rfl)
theorem dX5_car_45 : decode cX5_car 45 = .ok (.ireturn, 1) := dk_172 (dk_at dksX5_car_1 23 rfl rfl)
abbrev cX5_isCar : ByteArray := prog_21_method_29_code
def yX5_isCar : MethodName := ⟨RX5, "isCar", "(I)Z"⟩
def dkwX5_isCar_0 : List UInt8 := [27, 133, 9, 42, 180, 0, 17, 4, 46, 4, 100, 133, 184, 0, 152, 172]
abbrev dktX5_isCar_0 : List UInt8 := dkwX5_isCar_0 ++ []
theorem dksX5_isCar_0 : cX5_isCar.data.toList.drop 0 = dktX5_isCar_0 := by decide +kernel
theorem dX5_isCar_0 : decode cX5_isCar 0 = .ok (.iload_n 1, 1) := dk_27 (dk_at dksX5_isCar_0 0 rfl rfl)
theorem dX5_isCar_1 : decode cX5_isCar 1 = .ok (.i2l, 1) := dk_133 (dk_at dksX5_isCar_0 1 rfl rfl)
theorem dX5_isCar_2 : decode cX5_isCar 2 = .ok (.lconst 0, 1) := dk_9 (dk_at dksX5_isCar_0 2 rfl rfl)
theorem dX5_isCar_3 : decode cX5_isCar 3 = .ok (.aload_n 0, 1) := dk_42 (dk_at dksX5_isCar_0 3 rfl rfl)
theorem dX5_isCar_4 : decode cX5_isCar 4 = .ok (.getfield 17, 3) := dk_180 0 17 (dk_at dksX5_isCar_0 4 rfl rfl)
theorem dX5_isCar_7 : decode cX5_isCar 7 = .ok (.iconst 1, 1) := dk_4 (dk_at dksX5_isCar_0 7 rfl rfl)
theorem dX5_isCar_8 : decode cX5_isCar 8 = .ok (.iaload, 1) := dk_46 (dk_at dksX5_isCar_0 8 rfl rfl)
theorem dX5_isCar_9 : decode cX5_isCar 9 = .ok (.iconst 1, 1) := dk_4 (dk_at dksX5_isCar_0 9 rfl rfl)
theorem dX5_isCar_10 : decode cX5_isCar 10 = .ok (.isub, 1) := dk_100 (dk_at dksX5_isCar_0 10 rfl rfl)
theorem dX5_isCar_11 : decode cX5_isCar 11 = .ok (.i2l, 1) := dk_133 (dk_at dksX5_isCar_0 11 rfl rfl)
theorem dX5_isCar_12 : decode cX5_isCar 12 = .ok (.invokestatic 152, 3) := dk_184 0 152 (dk_at dksX5_isCar_0 12 rfl rfl)
theorem dX5_isCar_15 : decode cX5_isCar 15 = .ok (.ireturn, 1) := dk_172 (dk_at dksX5_isCar_0 15 rfl rfl)
abbrev cX5_trait : ByteArray := prog_21_method_31_code
def yX5_trait : MethodName := ⟨RX5, "trait", "(IZ)I"⟩
def dkwX5_trait_3 : List UInt8 := [130, 126, 79, 29, 172]
abbrev dktX5_trait_3 : List UInt8 := dkwX5_trait_3 ++ []
def dkwX5_trait_2 : List UInt8 := [180, 0, 17, 16, 34, 46, 4, 27, 120, 128, 167, 0, 16, 42, 180, 0, 17, 16, 34, 46, 4, 27, 120, 2]
abbrev dktX5_trait_2 : List UInt8 := dkwX5_trait_2 ++ dktX5_trait_3
def dkwX5_trait_1 : List UInt8 := [42, 180, 0, 17, 16, 34, 46, 27, 122, 4, 126, 62, 42, 180, 0, 17, 16, 34, 28, 153, 0, 17, 42]
abbrev dktX5_trait_1 : List UInt8 := dkwX5_trait_1 ++ dktX5_trait_2
def dkwX5_trait_0 : List UInt8 := [42, 3, 181, 0, 1, 27, 133, 9, 20, 0, 215, 184, 0, 152, 154, 0, 10, 42, 16, 254, 182, 0, 89, 172]
abbrev dktX5_trait_0 : List UInt8 := dkwX5_trait_0 ++ dktX5_trait_1
theorem dksX5_trait_0 : cX5_trait.data.toList.drop 0 = dktX5_trait_0 := by decide +kernel
theorem dksX5_trait_1 : cX5_trait.data.toList.drop 24 = dktX5_trait_1 := dk_seg dksX5_trait_0 24 rfl rfl
theorem dksX5_trait_2 : cX5_trait.data.toList.drop 47 = dktX5_trait_2 := dk_seg dksX5_trait_1 23 rfl rfl
theorem dksX5_trait_3 : cX5_trait.data.toList.drop 71 = dktX5_trait_3 := dk_seg dksX5_trait_2 24 rfl rfl
theorem dX5_trait_0 : decode cX5_trait 0 = .ok (.aload_n 0, 1) := dk_42 (dk_at dksX5_trait_0 0 rfl rfl)
theorem dX5_trait_1 : decode cX5_trait 1 = .ok (.iconst 0, 1) := dk_3 (dk_at dksX5_trait_0 1 rfl rfl)
theorem dX5_trait_2 : decode cX5_trait 2 = .ok (.putfield 1, 3) := dk_181 0 1 (dk_at dksX5_trait_0 2 rfl rfl)
theorem dX5_trait_5 : decode cX5_trait 5 = .ok (.iload_n 1, 1) := dk_27 (dk_at dksX5_trait_0 5 rfl rfl)
theorem dX5_trait_6 : decode cX5_trait 6 = .ok (.i2l, 1) := dk_133 (dk_at dksX5_trait_0 6 rfl rfl)
theorem dX5_trait_7 : decode cX5_trait 7 = .ok (.lconst 0, 1) := dk_9 (dk_at dksX5_trait_0 7 rfl rfl)
theorem dX5_trait_8 : decode cX5_trait 8 = .ok (.ldc2_w 215, 3) := dk_20 0 215 (dk_at dksX5_trait_0 8 rfl rfl)
theorem dX5_trait_11 : decode cX5_trait 11 = .ok (.invokestatic 152, 3) := dk_184 0 152 (dk_at dksX5_trait_0 11 rfl rfl)
theorem dX5_trait_14 : decode cX5_trait 14 = .ok (.ifCond .ne 10, 3) := dk_154 0 10 (dk_at dksX5_trait_0 14 rfl rfl)
theorem dX5_trait_17 : decode cX5_trait 17 = .ok (.aload_n 0, 1) := dk_42 (dk_at dksX5_trait_0 17 rfl rfl)
theorem dX5_trait_18 : decode cX5_trait 18 = .ok (.bipush (-2), 2) := dk_16 254 (dk_at dksX5_trait_0 18 rfl rfl)
theorem dX5_trait_20 : decode cX5_trait 20 = .ok (.invokevirtual 89, 3) := dk_182 0 89 (dk_at dksX5_trait_0 20 rfl rfl)
theorem dX5_trait_23 : decode cX5_trait 23 = .ok (.ireturn, 1) := dk_172 (dk_at dksX5_trait_0 23 rfl rfl)
theorem dX5_trait_24 : decode cX5_trait 24 = .ok (.aload_n 0, 1) := dk_42 (dk_at dksX5_trait_1 0 rfl rfl)
theorem dX5_trait_25 : decode cX5_trait 25 = .ok (.getfield 17, 3) := dk_180 0 17 (dk_at dksX5_trait_1 1 rfl rfl)
theorem dX5_trait_28 : decode cX5_trait 28 = .ok (.bipush 34, 2) := dk_16 34 (dk_at dksX5_trait_1 4 rfl rfl)
theorem dX5_trait_30 : decode cX5_trait 30 = .ok (.iaload, 1) := dk_46 (dk_at dksX5_trait_1 6 rfl rfl)
theorem dX5_trait_31 : decode cX5_trait 31 = .ok (.iload_n 1, 1) := dk_27 (dk_at dksX5_trait_1 7 rfl rfl)
theorem dX5_trait_32 : decode cX5_trait 32 = .ok (.ishr, 1) := dk_122 (dk_at dksX5_trait_1 8 rfl rfl)
theorem dX5_trait_33 : decode cX5_trait 33 = .ok (.iconst 1, 1) := dk_4 (dk_at dksX5_trait_1 9 rfl rfl)
theorem dX5_trait_34 : decode cX5_trait 34 = .ok (.iand, 1) := dk_126 (dk_at dksX5_trait_1 10 rfl rfl)
theorem dX5_trait_35 : decode cX5_trait 35 = .ok (.istore_n 3, 1) := dk_62 (dk_at dksX5_trait_1 11 rfl rfl)
theorem dX5_trait_36 : decode cX5_trait 36 = .ok (.aload_n 0, 1) := dk_42 (dk_at dksX5_trait_1 12 rfl rfl)
theorem dX5_trait_37 : decode cX5_trait 37 = .ok (.getfield 17, 3) := dk_180 0 17 (dk_at dksX5_trait_1 13 rfl rfl)
theorem dX5_trait_40 : decode cX5_trait 40 = .ok (.bipush 34, 2) := dk_16 34 (dk_at dksX5_trait_1 16 rfl rfl)
theorem dX5_trait_42 : decode cX5_trait 42 = .ok (.iload_n 2, 1) := dk_28 (dk_at dksX5_trait_1 18 rfl rfl)
theorem dX5_trait_43 : decode cX5_trait 43 = .ok (.ifCond .eq 17, 3) := dk_153 0 17 (dk_at dksX5_trait_1 19 rfl rfl)
theorem dX5_trait_46 : decode cX5_trait 46 = .ok (.aload_n 0, 1) := dk_42 (dk_at dksX5_trait_1 22 rfl rfl)
theorem dX5_trait_47 : decode cX5_trait 47 = .ok (.getfield 17, 3) := dk_180 0 17 (dk_at dksX5_trait_2 0 rfl rfl)
theorem dX5_trait_50 : decode cX5_trait 50 = .ok (.bipush 34, 2) := dk_16 34 (dk_at dksX5_trait_2 3 rfl rfl)
theorem dX5_trait_52 : decode cX5_trait 52 = .ok (.iaload, 1) := dk_46 (dk_at dksX5_trait_2 5 rfl rfl)
theorem dX5_trait_53 : decode cX5_trait 53 = .ok (.iconst 1, 1) := dk_4 (dk_at dksX5_trait_2 6 rfl rfl)
theorem dX5_trait_54 : decode cX5_trait 54 = .ok (.iload_n 1, 1) := dk_27 (dk_at dksX5_trait_2 7 rfl rfl)
theorem dX5_trait_55 : decode cX5_trait 55 = .ok (.ishl, 1) := dk_120 (dk_at dksX5_trait_2 8 rfl rfl)
theorem dX5_trait_56 : decode cX5_trait 56 = .ok (.ior, 1) := dk_128 (dk_at dksX5_trait_2 9 rfl rfl)
theorem dX5_trait_57 : decode cX5_trait 57 = .ok (.goto 16, 3) := dk_167 0 16 (dk_at dksX5_trait_2 10 rfl rfl)
theorem dX5_trait_60 : decode cX5_trait 60 = .ok (.aload_n 0, 1) := dk_42 (dk_at dksX5_trait_2 13 rfl rfl)
theorem dX5_trait_61 : decode cX5_trait 61 = .ok (.getfield 17, 3) := dk_180 0 17 (dk_at dksX5_trait_2 14 rfl rfl)
theorem dX5_trait_64 : decode cX5_trait 64 = .ok (.bipush 34, 2) := dk_16 34 (dk_at dksX5_trait_2 17 rfl rfl)
theorem dX5_trait_66 : decode cX5_trait 66 = .ok (.iaload, 1) := dk_46 (dk_at dksX5_trait_2 19 rfl rfl)
theorem dX5_trait_67 : decode cX5_trait 67 = .ok (.iconst 1, 1) := dk_4 (dk_at dksX5_trait_2 20 rfl rfl)
theorem dX5_trait_68 : decode cX5_trait 68 = .ok (.iload_n 1, 1) := dk_27 (dk_at dksX5_trait_2 21 rfl rfl)
theorem dX5_trait_69 : decode cX5_trait 69 = .ok (.ishl, 1) := dk_120 (dk_at dksX5_trait_2 22 rfl rfl)
theorem dX5_trait_70 : decode cX5_trait 70 = .ok (.iconst (-1), 1) := dk_2 (dk_at dksX5_trait_2 23 rfl rfl)
theorem dX5_trait_71 : decode cX5_trait 71 = .ok (.ixor, 1) := dk_130 (dk_at dksX5_trait_3 0 rfl rfl)
theorem dX5_trait_72 : decode cX5_trait 72 = .ok (.iand, 1) := dk_126 (dk_at dksX5_trait_3 1 rfl rfl)
theorem dX5_trait_73 : decode cX5_trait 73 = .ok (.iastore, 1) := dk_79 (dk_at dksX5_trait_3 2 rfl rfl)
theorem dX5_trait_74 : decode cX5_trait 74 = .ok (.iload_n 3, 1) := dk_29 (dk_at dksX5_trait_3 3 rfl rfl)
theorem dX5_trait_75 : decode cX5_trait 75 = .ok (.ireturn, 1) := dk_172 (dk_at dksX5_trait_3 4 rfl rfl)
abbrev cX5_set : ByteArray := prog_21_method_32_code
def yX5_set : MethodName := ⟨RX5, "set", "(II)I"⟩
def dkwX5_set_4 : List UInt8 := [180, 0, 17, 16, 35, 27, 96, 28, 79, 29, 172]
abbrev dktX5_set_4 : List UInt8 := dkwX5_set_4 ++ []
def dkwX5_set_3 : List UInt8 := [184, 0, 152, 154, 0, 10, 42, 16, 253, 182, 0, 89, 172, 42, 180, 0, 17, 16, 35, 27, 96, 46, 62, 42]
abbrev dktX5_set_3 : List UInt8 := dkwX5_set_3 ++ dktX5_set_4
def dkwX5_set_2 : List UInt8 := [160, 0, 9, 20, 0, 219, 167, 0, 17, 27, 5, 160, 0, 9, 20, 0, 221, 167, 0, 6, 20, 0, 223]
abbrev dktX5_set_2 : List UInt8 := dkwX5_set_2 ++ dktX5_set_3
def dkwX5_set_1 : List UInt8 := [28, 133, 27, 6, 160, 0, 7, 10, 167, 0, 4, 9, 27, 154, 0, 9, 20, 0, 217, 167, 0, 28, 27, 4]
abbrev dktX5_set_1 : List UInt8 := dkwX5_set_1 ++ dktX5_set_2
def dkwX5_set_0 : List UInt8 := [42, 3, 181, 0, 1, 27, 133, 9, 20, 0, 213, 184, 0, 152, 154, 0, 10, 42, 16, 254, 182, 0, 89, 172]
abbrev dktX5_set_0 : List UInt8 := dkwX5_set_0 ++ dktX5_set_1
theorem dksX5_set_0 : cX5_set.data.toList.drop 0 = dktX5_set_0 := by decide +kernel
theorem dksX5_set_1 : cX5_set.data.toList.drop 24 = dktX5_set_1 := dk_seg dksX5_set_0 24 rfl rfl
theorem dksX5_set_2 : cX5_set.data.toList.drop 48 = dktX5_set_2 := dk_seg dksX5_set_1 24 rfl rfl
theorem dksX5_set_3 : cX5_set.data.toList.drop 71 = dktX5_set_3 := dk_seg dksX5_set_2 23 rfl rfl
theorem dksX5_set_4 : cX5_set.data.toList.drop 95 = dktX5_set_4 := dk_seg dksX5_set_3 24 rfl rfl
theorem dX5_set_0 : decode cX5_set 0 = .ok (.aload_n 0, 1) := dk_42 (dk_at dksX5_set_0 0 rfl rfl)
theorem dX5_set_1 : decode cX5_set 1 = .ok (.iconst 0, 1) := dk_3 (dk_at dksX5_set_0 1 rfl rfl)
theorem dX5_set_2 : decode cX5_set 2 = .ok (.putfield 1, 3) := dk_181 0 1 (dk_at dksX5_set_0 2 rfl rfl)
theorem dX5_set_5 : decode cX5_set 5 = .ok (.iload_n 1, 1) := dk_27 (dk_at dksX5_set_0 5 rfl rfl)
theorem dX5_set_6 : decode cX5_set 6 = .ok (.i2l, 1) := dk_133 (dk_at dksX5_set_0 6 rfl rfl)
theorem dX5_set_7 : decode cX5_set 7 = .ok (.lconst 0, 1) := dk_9 (dk_at dksX5_set_0 7 rfl rfl)
theorem dX5_set_8 : decode cX5_set 8 = .ok (.ldc2_w 213, 3) := dk_20 0 213 (dk_at dksX5_set_0 8 rfl rfl)
theorem dX5_set_11 : decode cX5_set 11 = .ok (.invokestatic 152, 3) := dk_184 0 152 (dk_at dksX5_set_0 11 rfl rfl)
theorem dX5_set_14 : decode cX5_set 14 = .ok (.ifCond .ne 10, 3) := dk_154 0 10 (dk_at dksX5_set_0 14 rfl rfl)
theorem dX5_set_17 : decode cX5_set 17 = .ok (.aload_n 0, 1) := dk_42 (dk_at dksX5_set_0 17 rfl rfl)
theorem dX5_set_18 : decode cX5_set 18 = .ok (.bipush (-2), 2) := dk_16 254 (dk_at dksX5_set_0 18 rfl rfl)
theorem dX5_set_20 : decode cX5_set 20 = .ok (.invokevirtual 89, 3) := dk_182 0 89 (dk_at dksX5_set_0 20 rfl rfl)
theorem dX5_set_23 : decode cX5_set 23 = .ok (.ireturn, 1) := dk_172 (dk_at dksX5_set_0 23 rfl rfl)
theorem dX5_set_24 : decode cX5_set 24 = .ok (.iload_n 2, 1) := dk_28 (dk_at dksX5_set_1 0 rfl rfl)
theorem dX5_set_25 : decode cX5_set 25 = .ok (.i2l, 1) := dk_133 (dk_at dksX5_set_1 1 rfl rfl)
theorem dX5_set_26 : decode cX5_set 26 = .ok (.iload_n 1, 1) := dk_27 (dk_at dksX5_set_1 2 rfl rfl)
theorem dX5_set_27 : decode cX5_set 27 = .ok (.iconst 3, 1) := dk_6 (dk_at dksX5_set_1 3 rfl rfl)
theorem dX5_set_28 : decode cX5_set 28 = .ok (.if_icmp .ne 7, 3) := dk_160 0 7 (dk_at dksX5_set_1 4 rfl rfl)
theorem dX5_set_31 : decode cX5_set 31 = .ok (.lconst 1, 1) := dk_10 (dk_at dksX5_set_1 7 rfl rfl)
theorem dX5_set_32 : decode cX5_set 32 = .ok (.goto 4, 3) := dk_167 0 4 (dk_at dksX5_set_1 8 rfl rfl)
theorem dX5_set_35 : decode cX5_set 35 = .ok (.lconst 0, 1) := dk_9 (dk_at dksX5_set_1 11 rfl rfl)
theorem dX5_set_36 : decode cX5_set 36 = .ok (.iload_n 1, 1) := dk_27 (dk_at dksX5_set_1 12 rfl rfl)
theorem dX5_set_37 : decode cX5_set 37 = .ok (.ifCond .ne 9, 3) := dk_154 0 9 (dk_at dksX5_set_1 13 rfl rfl)
theorem dX5_set_40 : decode cX5_set 40 = .ok (.ldc2_w 217, 3) := dk_20 0 217 (dk_at dksX5_set_1 16 rfl rfl)
theorem dX5_set_43 : decode cX5_set 43 = .ok (.goto 28, 3) := dk_167 0 28 (dk_at dksX5_set_1 19 rfl rfl)
theorem dX5_set_46 : decode cX5_set 46 = .ok (.iload_n 1, 1) := dk_27 (dk_at dksX5_set_1 22 rfl rfl)
theorem dX5_set_47 : decode cX5_set 47 = .ok (.iconst 1, 1) := dk_4 (dk_at dksX5_set_1 23 rfl rfl)
theorem dX5_set_48 : decode cX5_set 48 = .ok (.if_icmp .ne 9, 3) := dk_160 0 9 (dk_at dksX5_set_2 0 rfl rfl)
theorem dX5_set_51 : decode cX5_set 51 = .ok (.ldc2_w 219, 3) := dk_20 0 219 (dk_at dksX5_set_2 3 rfl rfl)
theorem dX5_set_54 : decode cX5_set 54 = .ok (.goto 17, 3) := dk_167 0 17 (dk_at dksX5_set_2 6 rfl rfl)
theorem dX5_set_57 : decode cX5_set 57 = .ok (.iload_n 1, 1) := dk_27 (dk_at dksX5_set_2 9 rfl rfl)
theorem dX5_set_58 : decode cX5_set 58 = .ok (.iconst 2, 1) := dk_5 (dk_at dksX5_set_2 10 rfl rfl)
theorem dX5_set_59 : decode cX5_set 59 = .ok (.if_icmp .ne 9, 3) := dk_160 0 9 (dk_at dksX5_set_2 11 rfl rfl)
theorem dX5_set_62 : decode cX5_set 62 = .ok (.ldc2_w 221, 3) := dk_20 0 221 (dk_at dksX5_set_2 14 rfl rfl)
theorem dX5_set_65 : decode cX5_set 65 = .ok (.goto 6, 3) := dk_167 0 6 (dk_at dksX5_set_2 17 rfl rfl)
theorem dX5_set_68 : decode cX5_set 68 = .ok (.ldc2_w 223, 3) := dk_20 0 223 (dk_at dksX5_set_2 20 rfl rfl)
theorem dX5_set_71 : decode cX5_set 71 = .ok (.invokestatic 152, 3) := dk_184 0 152 (dk_at dksX5_set_3 0 rfl rfl)
theorem dX5_set_74 : decode cX5_set 74 = .ok (.ifCond .ne 10, 3) := dk_154 0 10 (dk_at dksX5_set_3 3 rfl rfl)
theorem dX5_set_77 : decode cX5_set 77 = .ok (.aload_n 0, 1) := dk_42 (dk_at dksX5_set_3 6 rfl rfl)
theorem dX5_set_78 : decode cX5_set 78 = .ok (.bipush (-3), 2) := dk_16 253 (dk_at dksX5_set_3 7 rfl rfl)
theorem dX5_set_80 : decode cX5_set 80 = .ok (.invokevirtual 89, 3) := dk_182 0 89 (dk_at dksX5_set_3 9 rfl rfl)
theorem dX5_set_83 : decode cX5_set 83 = .ok (.ireturn, 1) := dk_172 (dk_at dksX5_set_3 12 rfl rfl)
theorem dX5_set_84 : decode cX5_set 84 = .ok (.aload_n 0, 1) := dk_42 (dk_at dksX5_set_3 13 rfl rfl)
theorem dX5_set_85 : decode cX5_set 85 = .ok (.getfield 17, 3) := dk_180 0 17 (dk_at dksX5_set_3 14 rfl rfl)
theorem dX5_set_88 : decode cX5_set 88 = .ok (.bipush 35, 2) := dk_16 35 (dk_at dksX5_set_3 17 rfl rfl)
theorem dX5_set_90 : decode cX5_set 90 = .ok (.iload_n 1, 1) := dk_27 (dk_at dksX5_set_3 19 rfl rfl)
theorem dX5_set_91 : decode cX5_set 91 = .ok (.iadd, 1) := dk_96 (dk_at dksX5_set_3 20 rfl rfl)
theorem dX5_set_92 : decode cX5_set 92 = .ok (.iaload, 1) := dk_46 (dk_at dksX5_set_3 21 rfl rfl)
theorem dX5_set_93 : decode cX5_set 93 = .ok (.istore_n 3, 1) := dk_62 (dk_at dksX5_set_3 22 rfl rfl)
theorem dX5_set_94 : decode cX5_set 94 = .ok (.aload_n 0, 1) := dk_42 (dk_at dksX5_set_3 23 rfl rfl)
theorem dX5_set_95 : decode cX5_set 95 = .ok (.getfield 17, 3) := dk_180 0 17 (dk_at dksX5_set_4 0 rfl rfl)
theorem dX5_set_98 : decode cX5_set 98 = .ok (.bipush 35, 2) := dk_16 35 (dk_at dksX5_set_4 3 rfl rfl)
theorem dX5_set_100 : decode cX5_set 100 = .ok (.iload_n 1, 1) := dk_27 (dk_at dksX5_set_4 5 rfl rfl)
theorem dX5_set_101 : decode cX5_set 101 = .ok (.iadd, 1) := dk_96 (dk_at dksX5_set_4 6 rfl rfl)
theorem dX5_set_102 : decode cX5_set 102 = .ok (.iload_n 2, 1) := dk_28 (dk_at dksX5_set_4 7 rfl rfl)
theorem dX5_set_103 : decode cX5_set 103 = .ok (.iastore, 1) := dk_79 (dk_at dksX5_set_4 8 rfl rfl)
theorem dX5_set_104 : decode cX5_set 104 = .ok (.iload_n 3, 1) := dk_29 (dk_at dksX5_set_4 9 rfl rfl)
theorem dX5_set_105 : decode cX5_set 105 = .ok (.ireturn, 1) := dk_172 (dk_at dksX5_set_4 10 rfl rfl)
abbrev cX5_chance : ByteArray := prog_21_method_40_code
def yX5_chance : MethodName := ⟨RX5, "chance", "(I)I"⟩
def dkwX5_chance_1 : List UInt8 := [182, 0, 240, 42, 27, 182, 0, 243, 172]
abbrev dktX5_chance_1 : List UInt8 := dkwX5_chance_1 ++ []
def dkwX5_chance_0 : List UInt8 := [42, 3, 181, 0, 1, 42, 27, 182, 0, 210, 154, 0, 10, 42, 16, 254, 182, 0, 89, 172, 42, 3]
abbrev dktX5_chance_0 : List UInt8 := dkwX5_chance_0 ++ dktX5_chance_1
theorem dksX5_chance_0 : cX5_chance.data.toList.drop 0 = dktX5_chance_0 := by decide +kernel
theorem dksX5_chance_1 : cX5_chance.data.toList.drop 22 = dktX5_chance_1 := dk_seg dksX5_chance_0 22 rfl rfl
theorem dX5_chance_0 : decode cX5_chance 0 = .ok (.aload_n 0, 1) := dk_42 (dk_at dksX5_chance_0 0 rfl rfl)
theorem dX5_chance_1 : decode cX5_chance 1 = .ok (.iconst 0, 1) := dk_3 (dk_at dksX5_chance_0 1 rfl rfl)
theorem dX5_chance_2 : decode cX5_chance 2 = .ok (.putfield 1, 3) := dk_181 0 1 (dk_at dksX5_chance_0 2 rfl rfl)
theorem dX5_chance_5 : decode cX5_chance 5 = .ok (.aload_n 0, 1) := dk_42 (dk_at dksX5_chance_0 5 rfl rfl)
theorem dX5_chance_6 : decode cX5_chance 6 = .ok (.iload_n 1, 1) := dk_27 (dk_at dksX5_chance_0 6 rfl rfl)
theorem dX5_chance_7 : decode cX5_chance 7 = .ok (.invokevirtual 210, 3) := dk_182 0 210 (dk_at dksX5_chance_0 7 rfl rfl)
theorem dX5_chance_10 : decode cX5_chance 10 = .ok (.ifCond .ne 10, 3) := dk_154 0 10 (dk_at dksX5_chance_0 10 rfl rfl)
theorem dX5_chance_13 : decode cX5_chance 13 = .ok (.aload_n 0, 1) := dk_42 (dk_at dksX5_chance_0 13 rfl rfl)
theorem dX5_chance_14 : decode cX5_chance 14 = .ok (.bipush (-2), 2) := dk_16 254 (dk_at dksX5_chance_0 14 rfl rfl)
theorem dX5_chance_16 : decode cX5_chance 16 = .ok (.invokevirtual 89, 3) := dk_182 0 89 (dk_at dksX5_chance_0 16 rfl rfl)
theorem dX5_chance_19 : decode cX5_chance 19 = .ok (.ireturn, 1) := dk_172 (dk_at dksX5_chance_0 19 rfl rfl)
theorem dX5_chance_20 : decode cX5_chance 20 = .ok (.aload_n 0, 1) := dk_42 (dk_at dksX5_chance_0 20 rfl rfl)
theorem dX5_chance_21 : decode cX5_chance 21 = .ok (.iconst 0, 1) := dk_3 (dk_at dksX5_chance_0 21 rfl rfl)
theorem dX5_chance_22 : decode cX5_chance 22 = .ok (.invokevirtual 240, 3) := dk_182 0 240 (dk_at dksX5_chance_1 0 rfl rfl)
theorem dX5_chance_25 : decode cX5_chance 25 = .ok (.aload_n 0, 1) := dk_42 (dk_at dksX5_chance_1 3 rfl rfl)
theorem dX5_chance_26 : decode cX5_chance 26 = .ok (.iload_n 1, 1) := dk_27 (dk_at dksX5_chance_1 4 rfl rfl)
theorem dX5_chance_27 : decode cX5_chance 27 = .ok (.invokevirtual 243, 3) := dk_182 0 243 (dk_at dksX5_chance_1 5 rfl rfl)
theorem dX5_chance_30 : decode cX5_chance 30 = .ok (.ireturn, 1) := dk_172 (dk_at dksX5_chance_1 8 rfl rfl)
abbrev cX5_begins : ByteArray := prog_21_method_34_code
def yX5_begins : MethodName := ⟨RX5, "begins", "(I)V"⟩
def dkwX5_begins_5 : List UInt8 := [16, 39, 2, 79, 42, 180, 0, 33, 16, 40, 27, 79, 177]
abbrev dktX5_begins_5 : List UInt8 := dkwX5_begins_5 ++ []
def dkwX5_begins_4 : List UInt8 := [167, 0, 12, 42, 180, 0, 17, 16, 18, 28, 96, 46, 79, 132, 2, 1, 167, 255, 170, 42, 180, 0, 33]
abbrev dktX5_begins_4 : List UInt8 := dkwX5_begins_4 ++ dktX5_begins_5
def dkwX5_begins_3 : List UInt8 := [16, 6, 182, 0, 225, 153, 0, 20, 42, 180, 0, 17, 16, 18, 28, 96, 46, 7, 164, 0, 7, 7]
abbrev dktX5_begins_3 : List UInt8 := dkwX5_begins_3 ++ dktX5_begins_4
def dkwX5_begins_2 : List UInt8 := [3, 167, 0, 12, 42, 180, 0, 17, 16, 10, 28, 96, 46, 79, 42, 180, 0, 33, 16, 8, 28, 96, 42]
abbrev dktX5_begins_2 : List UInt8 := dkwX5_begins_2 ++ dktX5_begins_3
def dkwX5_begins_1 : List UInt8 := [42, 180, 0, 17, 4, 46, 162, 0, 82, 42, 180, 0, 33, 3, 28, 96, 28, 42, 180, 0, 45, 160, 0, 7]
abbrev dktX5_begins_1 : List UInt8 := dkwX5_begins_1 ++ dktX5_begins_2
def dkwX5_begins_0 : List UInt8 := [3, 61, 28, 16, 42, 162, 0, 16, 42, 180, 0, 33, 28, 3, 79, 132, 2, 1, 167, 255, 240, 3, 61, 28]
abbrev dktX5_begins_0 : List UInt8 := dkwX5_begins_0 ++ dktX5_begins_1
theorem dksX5_begins_0 : cX5_begins.data.toList.drop 0 = dktX5_begins_0 := by decide +kernel
theorem dksX5_begins_1 : cX5_begins.data.toList.drop 24 = dktX5_begins_1 := dk_seg dksX5_begins_0 24 rfl rfl
theorem dksX5_begins_2 : cX5_begins.data.toList.drop 48 = dktX5_begins_2 := dk_seg dksX5_begins_1 24 rfl rfl
theorem dksX5_begins_3 : cX5_begins.data.toList.drop 71 = dktX5_begins_3 := dk_seg dksX5_begins_2 23 rfl rfl
theorem dksX5_begins_4 : cX5_begins.data.toList.drop 93 = dktX5_begins_4 := dk_seg dksX5_begins_3 22 rfl rfl
theorem dksX5_begins_5 : cX5_begins.data.toList.drop 116 = dktX5_begins_5 := dk_seg dksX5_begins_4 23 rfl rfl
theorem dX5_begins_0 : decode cX5_begins 0 = .ok (.iconst 0, 1) := dk_3 (dk_at dksX5_begins_0 0 rfl rfl)
theorem dX5_begins_1 : decode cX5_begins 1 = .ok (.istore_n 2, 1) := dk_61 (dk_at dksX5_begins_0 1 rfl rfl)
theorem dX5_begins_2 : decode cX5_begins 2 = .ok (.iload_n 2, 1) := dk_28 (dk_at dksX5_begins_0 2 rfl rfl)
theorem dX5_begins_3 : decode cX5_begins 3 = .ok (.bipush 42, 2) := dk_16 42 (dk_at dksX5_begins_0 3 rfl rfl)
theorem dX5_begins_5 : decode cX5_begins 5 = .ok (.if_icmp .ge 16, 3) := dk_162 0 16 (dk_at dksX5_begins_0 5 rfl rfl)
theorem dX5_begins_8 : decode cX5_begins 8 = .ok (.aload_n 0, 1) := dk_42 (dk_at dksX5_begins_0 8 rfl rfl)
theorem dX5_begins_9 : decode cX5_begins 9 = .ok (.getfield 33, 3) := dk_180 0 33 (dk_at dksX5_begins_0 9 rfl rfl)
theorem dX5_begins_12 : decode cX5_begins 12 = .ok (.iload_n 2, 1) := dk_28 (dk_at dksX5_begins_0 12 rfl rfl)
theorem dX5_begins_13 : decode cX5_begins 13 = .ok (.iconst 0, 1) := dk_3 (dk_at dksX5_begins_0 13 rfl rfl)
theorem dX5_begins_14 : decode cX5_begins 14 = .ok (.iastore, 1) := dk_79 (dk_at dksX5_begins_0 14 rfl rfl)
theorem dX5_begins_15 : decode cX5_begins 15 = .ok (.iinc 2 1, 3) := dk_132 2 1 (dk_at dksX5_begins_0 15 rfl rfl)
theorem dX5_begins_18 : decode cX5_begins 18 = .ok (.goto (-16), 3) := dk_167 255 240 (dk_at dksX5_begins_0 18 rfl rfl)
theorem dX5_begins_21 : decode cX5_begins 21 = .ok (.iconst 0, 1) := dk_3 (dk_at dksX5_begins_0 21 rfl rfl)
theorem dX5_begins_22 : decode cX5_begins 22 = .ok (.istore_n 2, 1) := dk_61 (dk_at dksX5_begins_0 22 rfl rfl)
theorem dX5_begins_23 : decode cX5_begins 23 = .ok (.iload_n 2, 1) := dk_28 (dk_at dksX5_begins_0 23 rfl rfl)
theorem dX5_begins_24 : decode cX5_begins 24 = .ok (.aload_n 0, 1) := dk_42 (dk_at dksX5_begins_1 0 rfl rfl)
theorem dX5_begins_25 : decode cX5_begins 25 = .ok (.getfield 17, 3) := dk_180 0 17 (dk_at dksX5_begins_1 1 rfl rfl)
theorem dX5_begins_28 : decode cX5_begins 28 = .ok (.iconst 1, 1) := dk_4 (dk_at dksX5_begins_1 4 rfl rfl)
theorem dX5_begins_29 : decode cX5_begins 29 = .ok (.iaload, 1) := dk_46 (dk_at dksX5_begins_1 5 rfl rfl)
theorem dX5_begins_30 : decode cX5_begins 30 = .ok (.if_icmp .ge 82, 3) := dk_162 0 82 (dk_at dksX5_begins_1 6 rfl rfl)
theorem dX5_begins_33 : decode cX5_begins 33 = .ok (.aload_n 0, 1) := dk_42 (dk_at dksX5_begins_1 9 rfl rfl)
theorem dX5_begins_34 : decode cX5_begins 34 = .ok (.getfield 33, 3) := dk_180 0 33 (dk_at dksX5_begins_1 10 rfl rfl)
theorem dX5_begins_37 : decode cX5_begins 37 = .ok (.iconst 0, 1) := dk_3 (dk_at dksX5_begins_1 13 rfl rfl)
theorem dX5_begins_38 : decode cX5_begins 38 = .ok (.iload_n 2, 1) := dk_28 (dk_at dksX5_begins_1 14 rfl rfl)
theorem dX5_begins_39 : decode cX5_begins 39 = .ok (.iadd, 1) := dk_96 (dk_at dksX5_begins_1 15 rfl rfl)
theorem dX5_begins_40 : decode cX5_begins 40 = .ok (.iload_n 2, 1) := dk_28 (dk_at dksX5_begins_1 16 rfl rfl)
theorem dX5_begins_41 : decode cX5_begins 41 = .ok (.aload_n 0, 1) := dk_42 (dk_at dksX5_begins_1 17 rfl rfl)
theorem dX5_begins_42 : decode cX5_begins 42 = .ok (.getfield 45, 3) := dk_180 0 45 (dk_at dksX5_begins_1 18 rfl rfl)
theorem dX5_begins_45 : decode cX5_begins 45 = .ok (.if_icmp .ne 7, 3) := dk_160 0 7 (dk_at dksX5_begins_1 21 rfl rfl)
theorem dX5_begins_48 : decode cX5_begins 48 = .ok (.iconst 0, 1) := dk_3 (dk_at dksX5_begins_2 0 rfl rfl)
theorem dX5_begins_49 : decode cX5_begins 49 = .ok (.goto 12, 3) := dk_167 0 12 (dk_at dksX5_begins_2 1 rfl rfl)
theorem dX5_begins_52 : decode cX5_begins 52 = .ok (.aload_n 0, 1) := dk_42 (dk_at dksX5_begins_2 4 rfl rfl)
theorem dX5_begins_53 : decode cX5_begins 53 = .ok (.getfield 17, 3) := dk_180 0 17 (dk_at dksX5_begins_2 5 rfl rfl)
theorem dX5_begins_56 : decode cX5_begins 56 = .ok (.bipush 10, 2) := dk_16 10 (dk_at dksX5_begins_2 8 rfl rfl)
theorem dX5_begins_58 : decode cX5_begins 58 = .ok (.iload_n 2, 1) := dk_28 (dk_at dksX5_begins_2 10 rfl rfl)
theorem dX5_begins_59 : decode cX5_begins 59 = .ok (.iadd, 1) := dk_96 (dk_at dksX5_begins_2 11 rfl rfl)
theorem dX5_begins_60 : decode cX5_begins 60 = .ok (.iaload, 1) := dk_46 (dk_at dksX5_begins_2 12 rfl rfl)
theorem dX5_begins_61 : decode cX5_begins 61 = .ok (.iastore, 1) := dk_79 (dk_at dksX5_begins_2 13 rfl rfl)
theorem dX5_begins_62 : decode cX5_begins 62 = .ok (.aload_n 0, 1) := dk_42 (dk_at dksX5_begins_2 14 rfl rfl)
theorem dX5_begins_63 : decode cX5_begins 63 = .ok (.getfield 33, 3) := dk_180 0 33 (dk_at dksX5_begins_2 15 rfl rfl)
theorem dX5_begins_66 : decode cX5_begins 66 = .ok (.bipush 8, 2) := dk_16 8 (dk_at dksX5_begins_2 18 rfl rfl)
theorem dX5_begins_68 : decode cX5_begins 68 = .ok (.iload_n 2, 1) := dk_28 (dk_at dksX5_begins_2 20 rfl rfl)
theorem dX5_begins_69 : decode cX5_begins 69 = .ok (.iadd, 1) := dk_96 (dk_at dksX5_begins_2 21 rfl rfl)
theorem dX5_begins_70 : decode cX5_begins 70 = .ok (.aload_n 0, 1) := dk_42 (dk_at dksX5_begins_2 22 rfl rfl)
theorem dX5_begins_71 : decode cX5_begins 71 = .ok (.bipush 6, 2) := dk_16 6 (dk_at dksX5_begins_3 0 rfl rfl)
theorem dX5_begins_73 : decode cX5_begins 73 = .ok (.invokevirtual 225, 3) := dk_182 0 225 (dk_at dksX5_begins_3 2 rfl rfl)
theorem dX5_begins_76 : decode cX5_begins 76 = .ok (.ifCond .eq 20, 3) := dk_153 0 20 (dk_at dksX5_begins_3 5 rfl rfl)
theorem dX5_begins_79 : decode cX5_begins 79 = .ok (.aload_n 0, 1) := dk_42 (dk_at dksX5_begins_3 8 rfl rfl)
theorem dX5_begins_80 : decode cX5_begins 80 = .ok (.getfield 17, 3) := dk_180 0 17 (dk_at dksX5_begins_3 9 rfl rfl)
theorem dX5_begins_83 : decode cX5_begins 83 = .ok (.bipush 18, 2) := dk_16 18 (dk_at dksX5_begins_3 12 rfl rfl)
theorem dX5_begins_85 : decode cX5_begins 85 = .ok (.iload_n 2, 1) := dk_28 (dk_at dksX5_begins_3 14 rfl rfl)
theorem dX5_begins_86 : decode cX5_begins 86 = .ok (.iadd, 1) := dk_96 (dk_at dksX5_begins_3 15 rfl rfl)
theorem dX5_begins_87 : decode cX5_begins 87 = .ok (.iaload, 1) := dk_46 (dk_at dksX5_begins_3 16 rfl rfl)
theorem dX5_begins_88 : decode cX5_begins 88 = .ok (.iconst 4, 1) := dk_7 (dk_at dksX5_begins_3 17 rfl rfl)
theorem dX5_begins_89 : decode cX5_begins 89 = .ok (.if_icmp .le 7, 3) := dk_164 0 7 (dk_at dksX5_begins_3 18 rfl rfl)
theorem dX5_begins_92 : decode cX5_begins 92 = .ok (.iconst 4, 1) := dk_7 (dk_at dksX5_begins_3 21 rfl rfl)
theorem dX5_begins_93 : decode cX5_begins 93 = .ok (.goto 12, 3) := dk_167 0 12 (dk_at dksX5_begins_4 0 rfl rfl)
theorem dX5_begins_96 : decode cX5_begins 96 = .ok (.aload_n 0, 1) := dk_42 (dk_at dksX5_begins_4 3 rfl rfl)
theorem dX5_begins_97 : decode cX5_begins 97 = .ok (.getfield 17, 3) := dk_180 0 17 (dk_at dksX5_begins_4 4 rfl rfl)
theorem dX5_begins_100 : decode cX5_begins 100 = .ok (.bipush 18, 2) := dk_16 18 (dk_at dksX5_begins_4 7 rfl rfl)
theorem dX5_begins_102 : decode cX5_begins 102 = .ok (.iload_n 2, 1) := dk_28 (dk_at dksX5_begins_4 9 rfl rfl)
theorem dX5_begins_103 : decode cX5_begins 103 = .ok (.iadd, 1) := dk_96 (dk_at dksX5_begins_4 10 rfl rfl)
theorem dX5_begins_104 : decode cX5_begins 104 = .ok (.iaload, 1) := dk_46 (dk_at dksX5_begins_4 11 rfl rfl)
theorem dX5_begins_105 : decode cX5_begins 105 = .ok (.iastore, 1) := dk_79 (dk_at dksX5_begins_4 12 rfl rfl)
theorem dX5_begins_106 : decode cX5_begins 106 = .ok (.iinc 2 1, 3) := dk_132 2 1 (dk_at dksX5_begins_4 13 rfl rfl)
theorem dX5_begins_109 : decode cX5_begins 109 = .ok (.goto (-86), 3) := dk_167 255 170 (dk_at dksX5_begins_4 16 rfl rfl)
theorem dX5_begins_112 : decode cX5_begins 112 = .ok (.aload_n 0, 1) := dk_42 (dk_at dksX5_begins_4 19 rfl rfl)
theorem dX5_begins_113 : decode cX5_begins 113 = .ok (.getfield 33, 3) := dk_180 0 33 (dk_at dksX5_begins_4 20 rfl rfl)
theorem dX5_begins_116 : decode cX5_begins 116 = .ok (.bipush 39, 2) := dk_16 39 (dk_at dksX5_begins_5 0 rfl rfl)
theorem dX5_begins_118 : decode cX5_begins 118 = .ok (.iconst (-1), 1) := dk_2 (dk_at dksX5_begins_5 2 rfl rfl)
theorem dX5_begins_119 : decode cX5_begins 119 = .ok (.iastore, 1) := dk_79 (dk_at dksX5_begins_5 3 rfl rfl)
theorem dX5_begins_120 : decode cX5_begins 120 = .ok (.aload_n 0, 1) := dk_42 (dk_at dksX5_begins_5 4 rfl rfl)
theorem dX5_begins_121 : decode cX5_begins 121 = .ok (.getfield 33, 3) := dk_180 0 33 (dk_at dksX5_begins_5 5 rfl rfl)
theorem dX5_begins_124 : decode cX5_begins 124 = .ok (.bipush 40, 2) := dk_16 40 (dk_at dksX5_begins_5 8 rfl rfl)
theorem dX5_begins_126 : decode cX5_begins 126 = .ok (.iload_n 1, 1) := dk_27 (dk_at dksX5_begins_5 10 rfl rfl)
theorem dX5_begins_127 : decode cX5_begins 127 = .ok (.iastore, 1) := dk_79 (dk_at dksX5_begins_5 11 rfl rfl)
theorem dX5_begins_128 : decode cX5_begins 128 = .ok (.return_, 1) := dk_177 (dk_at dksX5_begins_5 12 rfl rfl)
abbrev cX5_hasTrait : ByteArray := prog_21_method_33_code
def yX5_hasTrait : MethodName := ⟨RX5, "hasTrait", "(I)Z"⟩
def dkwX5_hasTrait_0 : List UInt8 := [42, 180, 0, 17, 16, 34, 46, 27, 122, 4, 126, 4, 160, 0, 7, 4, 167, 0, 4, 3, 172]
abbrev dktX5_hasTrait_0 : List UInt8 := dkwX5_hasTrait_0 ++ []
theorem dksX5_hasTrait_0 : cX5_hasTrait.data.toList.drop 0 = dktX5_hasTrait_0 := by decide +kernel
theorem dX5_hasTrait_0 : decode cX5_hasTrait 0 = .ok (.aload_n 0, 1) := dk_42 (dk_at dksX5_hasTrait_0 0 rfl rfl)
theorem dX5_hasTrait_1 : decode cX5_hasTrait 1 = .ok (.getfield 17, 3) := dk_180 0 17 (dk_at dksX5_hasTrait_0 1 rfl rfl)
theorem dX5_hasTrait_4 : decode cX5_hasTrait 4 = .ok (.bipush 34, 2) := dk_16 34 (dk_at dksX5_hasTrait_0 4 rfl rfl)
theorem dX5_hasTrait_6 : decode cX5_hasTrait 6 = .ok (.iaload, 1) := dk_46 (dk_at dksX5_hasTrait_0 6 rfl rfl)
theorem dX5_hasTrait_7 : decode cX5_hasTrait 7 = .ok (.iload_n 1, 1) := dk_27 (dk_at dksX5_hasTrait_0 7 rfl rfl)
theorem dX5_hasTrait_8 : decode cX5_hasTrait 8 = .ok (.ishr, 1) := dk_122 (dk_at dksX5_hasTrait_0 8 rfl rfl)
theorem dX5_hasTrait_9 : decode cX5_hasTrait 9 = .ok (.iconst 1, 1) := dk_4 (dk_at dksX5_hasTrait_0 9 rfl rfl)
theorem dX5_hasTrait_10 : decode cX5_hasTrait 10 = .ok (.iand, 1) := dk_126 (dk_at dksX5_hasTrait_0 10 rfl rfl)
theorem dX5_hasTrait_11 : decode cX5_hasTrait 11 = .ok (.iconst 1, 1) := dk_4 (dk_at dksX5_hasTrait_0 11 rfl rfl)
theorem dX5_hasTrait_12 : decode cX5_hasTrait 12 = .ok (.if_icmp .ne 7, 3) := dk_160 0 7 (dk_at dksX5_hasTrait_0 12 rfl rfl)
theorem dX5_hasTrait_15 : decode cX5_hasTrait 15 = .ok (.iconst 1, 1) := dk_4 (dk_at dksX5_hasTrait_0 15 rfl rfl)
theorem dX5_hasTrait_16 : decode cX5_hasTrait 16 = .ok (.goto 4, 3) := dk_167 0 4 (dk_at dksX5_hasTrait_0 16 rfl rfl)
theorem dX5_hasTrait_19 : decode cX5_hasTrait 19 = .ok (.iconst 0, 1) := dk_3 (dk_at dksX5_hasTrait_0 19 rfl rfl)
theorem dX5_hasTrait_20 : decode cX5_hasTrait 20 = .ok (.ireturn, 1) := dk_172 (dk_at dksX5_hasTrait_0 20 rfl rfl)
abbrev cX5_stopsBy : ByteArray := prog_21_method_38_code
def yX5_stopsBy : MethodName := ⟨RX5, "stopsBy", "(I)I"⟩
def dkwX5_stopsBy_1 : List UInt8 := [182, 0, 236, 153, 0, 13, 42, 180, 0, 17, 16, 41, 28, 96, 46, 172, 132, 2, 1, 167, 255, 215, 3, 172]
abbrev dktX5_stopsBy_1 : List UInt8 := dkwX5_stopsBy_1 ++ []
def dkwX5_stopsBy_0 : List UInt8 := [3, 61, 28, 42, 180, 0, 17, 16, 40, 46, 162, 0, 36, 28, 42, 180, 0, 42, 159, 0, 22, 42, 28, 27]
abbrev dktX5_stopsBy_0 : List UInt8 := dkwX5_stopsBy_0 ++ dktX5_stopsBy_1
theorem dksX5_stopsBy_0 : cX5_stopsBy.data.toList.drop 0 = dktX5_stopsBy_0 := by decide +kernel
theorem dksX5_stopsBy_1 : cX5_stopsBy.data.toList.drop 24 = dktX5_stopsBy_1 := dk_seg dksX5_stopsBy_0 24 rfl rfl
theorem dX5_stopsBy_0 : decode cX5_stopsBy 0 = .ok (.iconst 0, 1) := dk_3 (dk_at dksX5_stopsBy_0 0 rfl rfl)
theorem dX5_stopsBy_1 : decode cX5_stopsBy 1 = .ok (.istore_n 2, 1) := dk_61 (dk_at dksX5_stopsBy_0 1 rfl rfl)
theorem dX5_stopsBy_2 : decode cX5_stopsBy 2 = .ok (.iload_n 2, 1) := dk_28 (dk_at dksX5_stopsBy_0 2 rfl rfl)
theorem dX5_stopsBy_3 : decode cX5_stopsBy 3 = .ok (.aload_n 0, 1) := dk_42 (dk_at dksX5_stopsBy_0 3 rfl rfl)
theorem dX5_stopsBy_4 : decode cX5_stopsBy 4 = .ok (.getfield 17, 3) := dk_180 0 17 (dk_at dksX5_stopsBy_0 4 rfl rfl)
theorem dX5_stopsBy_7 : decode cX5_stopsBy 7 = .ok (.bipush 40, 2) := dk_16 40 (dk_at dksX5_stopsBy_0 7 rfl rfl)
theorem dX5_stopsBy_9 : decode cX5_stopsBy 9 = .ok (.iaload, 1) := dk_46 (dk_at dksX5_stopsBy_0 9 rfl rfl)
theorem dX5_stopsBy_10 : decode cX5_stopsBy 10 = .ok (.if_icmp .ge 36, 3) := dk_162 0 36 (dk_at dksX5_stopsBy_0 10 rfl rfl)
theorem dX5_stopsBy_13 : decode cX5_stopsBy 13 = .ok (.iload_n 2, 1) := dk_28 (dk_at dksX5_stopsBy_0 13 rfl rfl)
theorem dX5_stopsBy_14 : decode cX5_stopsBy 14 = .ok (.aload_n 0, 1) := dk_42 (dk_at dksX5_stopsBy_0 14 rfl rfl)
theorem dX5_stopsBy_15 : decode cX5_stopsBy 15 = .ok (.getfield 42, 3) := dk_180 0 42 (dk_at dksX5_stopsBy_0 15 rfl rfl)
theorem dX5_stopsBy_18 : decode cX5_stopsBy 18 = .ok (.if_icmp .eq 22, 3) := dk_159 0 22 (dk_at dksX5_stopsBy_0 18 rfl rfl)
theorem dX5_stopsBy_21 : decode cX5_stopsBy 21 = .ok (.aload_n 0, 1) := dk_42 (dk_at dksX5_stopsBy_0 21 rfl rfl)
theorem dX5_stopsBy_22 : decode cX5_stopsBy 22 = .ok (.iload_n 2, 1) := dk_28 (dk_at dksX5_stopsBy_0 22 rfl rfl)
theorem dX5_stopsBy_23 : decode cX5_stopsBy 23 = .ok (.iload_n 1, 1) := dk_27 (dk_at dksX5_stopsBy_0 23 rfl rfl)
theorem dX5_stopsBy_24 : decode cX5_stopsBy 24 = .ok (.invokevirtual 236, 3) := dk_182 0 236 (dk_at dksX5_stopsBy_1 0 rfl rfl)
theorem dX5_stopsBy_27 : decode cX5_stopsBy 27 = .ok (.ifCond .eq 13, 3) := dk_153 0 13 (dk_at dksX5_stopsBy_1 3 rfl rfl)
theorem dX5_stopsBy_30 : decode cX5_stopsBy 30 = .ok (.aload_n 0, 1) := dk_42 (dk_at dksX5_stopsBy_1 6 rfl rfl)
theorem dX5_stopsBy_31 : decode cX5_stopsBy 31 = .ok (.getfield 17, 3) := dk_180 0 17 (dk_at dksX5_stopsBy_1 7 rfl rfl)
theorem dX5_stopsBy_34 : decode cX5_stopsBy 34 = .ok (.bipush 41, 2) := dk_16 41 (dk_at dksX5_stopsBy_1 10 rfl rfl)
theorem dX5_stopsBy_36 : decode cX5_stopsBy 36 = .ok (.iload_n 2, 1) := dk_28 (dk_at dksX5_stopsBy_1 12 rfl rfl)
theorem dX5_stopsBy_37 : decode cX5_stopsBy 37 = .ok (.iadd, 1) := dk_96 (dk_at dksX5_stopsBy_1 13 rfl rfl)
theorem dX5_stopsBy_38 : decode cX5_stopsBy 38 = .ok (.iaload, 1) := dk_46 (dk_at dksX5_stopsBy_1 14 rfl rfl)
theorem dX5_stopsBy_39 : decode cX5_stopsBy 39 = .ok (.ireturn, 1) := dk_172 (dk_at dksX5_stopsBy_1 15 rfl rfl)
theorem dX5_stopsBy_40 : decode cX5_stopsBy 40 = .ok (.iinc 2 1, 3) := dk_132 2 1 (dk_at dksX5_stopsBy_1 16 rfl rfl)
theorem dX5_stopsBy_43 : decode cX5_stopsBy 43 = .ok (.goto (-41), 3) := dk_167 255 215 (dk_at dksX5_stopsBy_1 19 rfl rfl)
theorem dX5_stopsBy_46 : decode cX5_stopsBy 46 = .ok (.iconst 0, 1) := dk_3 (dk_at dksX5_stopsBy_1 22 rfl rfl)
theorem dX5_stopsBy_47 : decode cX5_stopsBy 47 = .ok (.ireturn, 1) := dk_172 (dk_at dksX5_stopsBy_1 23 rfl rfl)
abbrev cX5_isSo : ByteArray := prog_21_method_37_code
def yX5_isSo : MethodName := ⟨RX5, "isSo", "(II)Z"⟩
def dkwX5_isSo_8 : List UInt8 := [182, 0, 232, 84, 132, 3, 1, 132, 4, 1, 167, 255, 73, 42, 180, 0, 39, 3, 51, 172]
abbrev dktX5_isSo_8 : List UInt8 := dkwX5_isSo_8 ++ []
def dkwX5_isSo_7 : List UInt8 := [180, 0, 39, 29, 42, 21, 5, 42, 180, 0, 17, 16, 77, 5, 21, 4, 104, 96, 4, 96, 46, 28]
abbrev dktX5_isSo_7 : List UInt8 := dkwX5_isSo_7 ++ dktX5_isSo_8
def dkwX5_isSo_6 : List UInt8 := [154, 0, 12, 42, 180, 0, 39, 29, 51, 153, 0, 7, 4, 167, 0, 4, 3, 84, 167, 0, 33, 42]
abbrev dktX5_isSo_6 : List UInt8 := dkwX5_isSo_6 ++ dktX5_isSo_7
def dkwX5_isSo_5 : List UInt8 := [180, 0, 39, 29, 51, 153, 0, 7, 4, 167, 0, 32, 3, 167, 0, 28, 42, 180, 0, 39, 29, 4, 100, 51]
abbrev dktX5_isSo_5 : List UInt8 := dkwX5_isSo_5 ++ dktX5_isSo_6
def dkwX5_isSo_4 : List UInt8 := [29, 4, 100, 21, 5, 16, 20, 160, 0, 31, 42, 180, 0, 39, 29, 4, 100, 51, 153, 0, 16, 42]
abbrev dktX5_isSo_4 : List UInt8 := dkwX5_isSo_4 ++ dktX5_isSo_5
def dkwX5_isSo_3 : List UInt8 := [167, 0, 121, 21, 5, 16, 20, 159, 0, 10, 21, 5, 16, 19, 160, 0, 77, 132, 3, 255, 42, 180, 0, 39]
abbrev dktX5_isSo_3 : List UInt8 := dkwX5_isSo_3 ++ dktX5_isSo_4
def dkwX5_isSo_2 : List UInt8 := [42, 180, 0, 39, 29, 4, 100, 42, 180, 0, 39, 29, 4, 100, 51, 154, 0, 7, 4, 167, 0, 4, 3, 84]
abbrev dktX5_isSo_2 : List UInt8 := dkwX5_isSo_2 ++ dktX5_isSo_3
def dkwX5_isSo_1 : List UInt8 := [162, 0, 175, 42, 180, 0, 17, 16, 77, 5, 21, 4, 104, 96, 46, 54, 5, 21, 5, 16, 21, 160, 0, 30]
abbrev dktX5_isSo_1 : List UInt8 := dkwX5_isSo_1 ++ dktX5_isSo_2
def dkwX5_isSo_0 : List UInt8 := [3, 62, 42, 180, 0, 17, 16, 53, 27, 96, 46, 54, 4, 21, 4, 42, 180, 0, 17, 16, 65, 27, 96, 46]
abbrev dktX5_isSo_0 : List UInt8 := dkwX5_isSo_0 ++ dktX5_isSo_1
theorem dksX5_isSo_0 : cX5_isSo.data.toList.drop 0 = dktX5_isSo_0 := by decide +kernel
theorem dksX5_isSo_1 : cX5_isSo.data.toList.drop 24 = dktX5_isSo_1 := dk_seg dksX5_isSo_0 24 rfl rfl
theorem dksX5_isSo_2 : cX5_isSo.data.toList.drop 48 = dktX5_isSo_2 := dk_seg dksX5_isSo_1 24 rfl rfl
theorem dksX5_isSo_3 : cX5_isSo.data.toList.drop 72 = dktX5_isSo_3 := dk_seg dksX5_isSo_2 24 rfl rfl
theorem dksX5_isSo_4 : cX5_isSo.data.toList.drop 96 = dktX5_isSo_4 := dk_seg dksX5_isSo_3 24 rfl rfl
theorem dksX5_isSo_5 : cX5_isSo.data.toList.drop 118 = dktX5_isSo_5 := dk_seg dksX5_isSo_4 22 rfl rfl
theorem dksX5_isSo_6 : cX5_isSo.data.toList.drop 142 = dktX5_isSo_6 := dk_seg dksX5_isSo_5 24 rfl rfl
theorem dksX5_isSo_7 : cX5_isSo.data.toList.drop 164 = dktX5_isSo_7 := dk_seg dksX5_isSo_6 22 rfl rfl
theorem dksX5_isSo_8 : cX5_isSo.data.toList.drop 186 = dktX5_isSo_8 := dk_seg dksX5_isSo_7 22 rfl rfl
theorem dX5_isSo_0 : decode cX5_isSo 0 = .ok (.iconst 0, 1) := dk_3 (dk_at dksX5_isSo_0 0 rfl rfl)
theorem dX5_isSo_1 : decode cX5_isSo 1 = .ok (.istore_n 3, 1) := dk_62 (dk_at dksX5_isSo_0 1 rfl rfl)
theorem dX5_isSo_2 : decode cX5_isSo 2 = .ok (.aload_n 0, 1) := dk_42 (dk_at dksX5_isSo_0 2 rfl rfl)
theorem dX5_isSo_3 : decode cX5_isSo 3 = .ok (.getfield 17, 3) := dk_180 0 17 (dk_at dksX5_isSo_0 3 rfl rfl)
theorem dX5_isSo_6 : decode cX5_isSo 6 = .ok (.bipush 53, 2) := dk_16 53 (dk_at dksX5_isSo_0 6 rfl rfl)
theorem dX5_isSo_8 : decode cX5_isSo 8 = .ok (.iload_n 1, 1) := dk_27 (dk_at dksX5_isSo_0 8 rfl rfl)
theorem dX5_isSo_9 : decode cX5_isSo 9 = .ok (.iadd, 1) := dk_96 (dk_at dksX5_isSo_0 9 rfl rfl)
theorem dX5_isSo_10 : decode cX5_isSo 10 = .ok (.iaload, 1) := dk_46 (dk_at dksX5_isSo_0 10 rfl rfl)
theorem dX5_isSo_11 : decode cX5_isSo 11 = .ok (.istore 4, 2) := dk_54 4 (dk_at dksX5_isSo_0 11 rfl rfl)
theorem dX5_isSo_13 : decode cX5_isSo 13 = .ok (.iload 4, 2) := dk_21 4 (dk_at dksX5_isSo_0 13 rfl rfl)
theorem dX5_isSo_15 : decode cX5_isSo 15 = .ok (.aload_n 0, 1) := dk_42 (dk_at dksX5_isSo_0 15 rfl rfl)
theorem dX5_isSo_16 : decode cX5_isSo 16 = .ok (.getfield 17, 3) := dk_180 0 17 (dk_at dksX5_isSo_0 16 rfl rfl)
theorem dX5_isSo_19 : decode cX5_isSo 19 = .ok (.bipush 65, 2) := dk_16 65 (dk_at dksX5_isSo_0 19 rfl rfl)
theorem dX5_isSo_21 : decode cX5_isSo 21 = .ok (.iload_n 1, 1) := dk_27 (dk_at dksX5_isSo_0 21 rfl rfl)
theorem dX5_isSo_22 : decode cX5_isSo 22 = .ok (.iadd, 1) := dk_96 (dk_at dksX5_isSo_0 22 rfl rfl)
theorem dX5_isSo_23 : decode cX5_isSo 23 = .ok (.iaload, 1) := dk_46 (dk_at dksX5_isSo_0 23 rfl rfl)
theorem dX5_isSo_24 : decode cX5_isSo 24 = .ok (.if_icmp .ge 175, 3) := dk_162 0 175 (dk_at dksX5_isSo_1 0 rfl rfl)
theorem dX5_isSo_27 : decode cX5_isSo 27 = .ok (.aload_n 0, 1) := dk_42 (dk_at dksX5_isSo_1 3 rfl rfl)
theorem dX5_isSo_28 : decode cX5_isSo 28 = .ok (.getfield 17, 3) := dk_180 0 17 (dk_at dksX5_isSo_1 4 rfl rfl)
theorem dX5_isSo_31 : decode cX5_isSo 31 = .ok (.bipush 77, 2) := dk_16 77 (dk_at dksX5_isSo_1 7 rfl rfl)
theorem dX5_isSo_33 : decode cX5_isSo 33 = .ok (.iconst 2, 1) := dk_5 (dk_at dksX5_isSo_1 9 rfl rfl)
theorem dX5_isSo_34 : decode cX5_isSo 34 = .ok (.iload 4, 2) := dk_21 4 (dk_at dksX5_isSo_1 10 rfl rfl)
theorem dX5_isSo_36 : decode cX5_isSo 36 = .ok (.imul, 1) := dk_104 (dk_at dksX5_isSo_1 12 rfl rfl)
theorem dX5_isSo_37 : decode cX5_isSo 37 = .ok (.iadd, 1) := dk_96 (dk_at dksX5_isSo_1 13 rfl rfl)
theorem dX5_isSo_38 : decode cX5_isSo 38 = .ok (.iaload, 1) := dk_46 (dk_at dksX5_isSo_1 14 rfl rfl)
theorem dX5_isSo_39 : decode cX5_isSo 39 = .ok (.istore 5, 2) := dk_54 5 (dk_at dksX5_isSo_1 15 rfl rfl)
theorem dX5_isSo_41 : decode cX5_isSo 41 = .ok (.iload 5, 2) := dk_21 5 (dk_at dksX5_isSo_1 17 rfl rfl)
theorem dX5_isSo_43 : decode cX5_isSo 43 = .ok (.bipush 21, 2) := dk_16 21 (dk_at dksX5_isSo_1 19 rfl rfl)
theorem dX5_isSo_45 : decode cX5_isSo 45 = .ok (.if_icmp .ne 30, 3) := dk_160 0 30 (dk_at dksX5_isSo_1 21 rfl rfl)
theorem dX5_isSo_48 : decode cX5_isSo 48 = .ok (.aload_n 0, 1) := dk_42 (dk_at dksX5_isSo_2 0 rfl rfl)
theorem dX5_isSo_49 : decode cX5_isSo 49 = .ok (.getfield 39, 3) := dk_180 0 39 (dk_at dksX5_isSo_2 1 rfl rfl)
theorem dX5_isSo_52 : decode cX5_isSo 52 = .ok (.iload_n 3, 1) := dk_29 (dk_at dksX5_isSo_2 4 rfl rfl)
theorem dX5_isSo_53 : decode cX5_isSo 53 = .ok (.iconst 1, 1) := dk_4 (dk_at dksX5_isSo_2 5 rfl rfl)
theorem dX5_isSo_54 : decode cX5_isSo 54 = .ok (.isub, 1) := dk_100 (dk_at dksX5_isSo_2 6 rfl rfl)
theorem dX5_isSo_55 : decode cX5_isSo 55 = .ok (.aload_n 0, 1) := dk_42 (dk_at dksX5_isSo_2 7 rfl rfl)
theorem dX5_isSo_56 : decode cX5_isSo 56 = .ok (.getfield 39, 3) := dk_180 0 39 (dk_at dksX5_isSo_2 8 rfl rfl)
theorem dX5_isSo_59 : decode cX5_isSo 59 = .ok (.iload_n 3, 1) := dk_29 (dk_at dksX5_isSo_2 11 rfl rfl)
theorem dX5_isSo_60 : decode cX5_isSo 60 = .ok (.iconst 1, 1) := dk_4 (dk_at dksX5_isSo_2 12 rfl rfl)
theorem dX5_isSo_61 : decode cX5_isSo 61 = .ok (.isub, 1) := dk_100 (dk_at dksX5_isSo_2 13 rfl rfl)
theorem dX5_isSo_62 : decode cX5_isSo 62 = .ok (.baload, 1) := dk_51 (dk_at dksX5_isSo_2 14 rfl rfl)
theorem dX5_isSo_63 : decode cX5_isSo 63 = .ok (.ifCond .ne 7, 3) := dk_154 0 7 (dk_at dksX5_isSo_2 15 rfl rfl)
theorem dX5_isSo_66 : decode cX5_isSo 66 = .ok (.iconst 1, 1) := dk_4 (dk_at dksX5_isSo_2 18 rfl rfl)
theorem dX5_isSo_67 : decode cX5_isSo 67 = .ok (.goto 4, 3) := dk_167 0 4 (dk_at dksX5_isSo_2 19 rfl rfl)
theorem dX5_isSo_70 : decode cX5_isSo 70 = .ok (.iconst 0, 1) := dk_3 (dk_at dksX5_isSo_2 22 rfl rfl)
theorem dX5_isSo_71 : decode cX5_isSo 71 = .ok (.bastore, 1) := dk_84 (dk_at dksX5_isSo_2 23 rfl rfl)
theorem dX5_isSo_72 : decode cX5_isSo 72 = .ok (.goto 121, 3) := dk_167 0 121 (dk_at dksX5_isSo_3 0 rfl rfl)
theorem dX5_isSo_75 : decode cX5_isSo 75 = .ok (.iload 5, 2) := dk_21 5 (dk_at dksX5_isSo_3 3 rfl rfl)
theorem dX5_isSo_77 : decode cX5_isSo 77 = .ok (.bipush 20, 2) := dk_16 20 (dk_at dksX5_isSo_3 5 rfl rfl)
theorem dX5_isSo_79 : decode cX5_isSo 79 = .ok (.if_icmp .eq 10, 3) := dk_159 0 10 (dk_at dksX5_isSo_3 7 rfl rfl)
theorem dX5_isSo_82 : decode cX5_isSo 82 = .ok (.iload 5, 2) := dk_21 5 (dk_at dksX5_isSo_3 10 rfl rfl)
theorem dX5_isSo_84 : decode cX5_isSo 84 = .ok (.bipush 19, 2) := dk_16 19 (dk_at dksX5_isSo_3 12 rfl rfl)
theorem dX5_isSo_86 : decode cX5_isSo 86 = .ok (.if_icmp .ne 77, 3) := dk_160 0 77 (dk_at dksX5_isSo_3 14 rfl rfl)
theorem dX5_isSo_89 : decode cX5_isSo 89 = .ok (.iinc 3 (-1), 3) := dk_132 3 255 (dk_at dksX5_isSo_3 17 rfl rfl)
theorem dX5_isSo_92 : decode cX5_isSo 92 = .ok (.aload_n 0, 1) := dk_42 (dk_at dksX5_isSo_3 20 rfl rfl)
theorem dX5_isSo_93 : decode cX5_isSo 93 = .ok (.getfield 39, 3) := dk_180 0 39 (dk_at dksX5_isSo_3 21 rfl rfl)
theorem dX5_isSo_96 : decode cX5_isSo 96 = .ok (.iload_n 3, 1) := dk_29 (dk_at dksX5_isSo_4 0 rfl rfl)
theorem dX5_isSo_97 : decode cX5_isSo 97 = .ok (.iconst 1, 1) := dk_4 (dk_at dksX5_isSo_4 1 rfl rfl)
theorem dX5_isSo_98 : decode cX5_isSo 98 = .ok (.isub, 1) := dk_100 (dk_at dksX5_isSo_4 2 rfl rfl)
theorem dX5_isSo_99 : decode cX5_isSo 99 = .ok (.iload 5, 2) := dk_21 5 (dk_at dksX5_isSo_4 3 rfl rfl)
theorem dX5_isSo_101 : decode cX5_isSo 101 = .ok (.bipush 20, 2) := dk_16 20 (dk_at dksX5_isSo_4 5 rfl rfl)
theorem dX5_isSo_103 : decode cX5_isSo 103 = .ok (.if_icmp .ne 31, 3) := dk_160 0 31 (dk_at dksX5_isSo_4 7 rfl rfl)
theorem dX5_isSo_106 : decode cX5_isSo 106 = .ok (.aload_n 0, 1) := dk_42 (dk_at dksX5_isSo_4 10 rfl rfl)
theorem dX5_isSo_107 : decode cX5_isSo 107 = .ok (.getfield 39, 3) := dk_180 0 39 (dk_at dksX5_isSo_4 11 rfl rfl)
theorem dX5_isSo_110 : decode cX5_isSo 110 = .ok (.iload_n 3, 1) := dk_29 (dk_at dksX5_isSo_4 14 rfl rfl)
theorem dX5_isSo_111 : decode cX5_isSo 111 = .ok (.iconst 1, 1) := dk_4 (dk_at dksX5_isSo_4 15 rfl rfl)
theorem dX5_isSo_112 : decode cX5_isSo 112 = .ok (.isub, 1) := dk_100 (dk_at dksX5_isSo_4 16 rfl rfl)
theorem dX5_isSo_113 : decode cX5_isSo 113 = .ok (.baload, 1) := dk_51 (dk_at dksX5_isSo_4 17 rfl rfl)
theorem dX5_isSo_114 : decode cX5_isSo 114 = .ok (.ifCond .eq 16, 3) := dk_153 0 16 (dk_at dksX5_isSo_4 18 rfl rfl)
theorem dX5_isSo_117 : decode cX5_isSo 117 = .ok (.aload_n 0, 1) := dk_42 (dk_at dksX5_isSo_4 21 rfl rfl)
theorem dX5_isSo_118 : decode cX5_isSo 118 = .ok (.getfield 39, 3) := dk_180 0 39 (dk_at dksX5_isSo_5 0 rfl rfl)
theorem dX5_isSo_121 : decode cX5_isSo 121 = .ok (.iload_n 3, 1) := dk_29 (dk_at dksX5_isSo_5 3 rfl rfl)
theorem dX5_isSo_122 : decode cX5_isSo 122 = .ok (.baload, 1) := dk_51 (dk_at dksX5_isSo_5 4 rfl rfl)
theorem dX5_isSo_123 : decode cX5_isSo 123 = .ok (.ifCond .eq 7, 3) := dk_153 0 7 (dk_at dksX5_isSo_5 5 rfl rfl)
theorem dX5_isSo_126 : decode cX5_isSo 126 = .ok (.iconst 1, 1) := dk_4 (dk_at dksX5_isSo_5 8 rfl rfl)
theorem dX5_isSo_127 : decode cX5_isSo 127 = .ok (.goto 32, 3) := dk_167 0 32 (dk_at dksX5_isSo_5 9 rfl rfl)
theorem dX5_isSo_130 : decode cX5_isSo 130 = .ok (.iconst 0, 1) := dk_3 (dk_at dksX5_isSo_5 12 rfl rfl)
theorem dX5_isSo_131 : decode cX5_isSo 131 = .ok (.goto 28, 3) := dk_167 0 28 (dk_at dksX5_isSo_5 13 rfl rfl)
theorem dX5_isSo_134 : decode cX5_isSo 134 = .ok (.aload_n 0, 1) := dk_42 (dk_at dksX5_isSo_5 16 rfl rfl)
theorem dX5_isSo_135 : decode cX5_isSo 135 = .ok (.getfield 39, 3) := dk_180 0 39 (dk_at dksX5_isSo_5 17 rfl rfl)
theorem dX5_isSo_138 : decode cX5_isSo 138 = .ok (.iload_n 3, 1) := dk_29 (dk_at dksX5_isSo_5 20 rfl rfl)
theorem dX5_isSo_139 : decode cX5_isSo 139 = .ok (.iconst 1, 1) := dk_4 (dk_at dksX5_isSo_5 21 rfl rfl)
theorem dX5_isSo_140 : decode cX5_isSo 140 = .ok (.isub, 1) := dk_100 (dk_at dksX5_isSo_5 22 rfl rfl)
theorem dX5_isSo_141 : decode cX5_isSo 141 = .ok (.baload, 1) := dk_51 (dk_at dksX5_isSo_5 23 rfl rfl)
theorem dX5_isSo_142 : decode cX5_isSo 142 = .ok (.ifCond .ne 12, 3) := dk_154 0 12 (dk_at dksX5_isSo_6 0 rfl rfl)
theorem dX5_isSo_145 : decode cX5_isSo 145 = .ok (.aload_n 0, 1) := dk_42 (dk_at dksX5_isSo_6 3 rfl rfl)
theorem dX5_isSo_146 : decode cX5_isSo 146 = .ok (.getfield 39, 3) := dk_180 0 39 (dk_at dksX5_isSo_6 4 rfl rfl)
theorem dX5_isSo_149 : decode cX5_isSo 149 = .ok (.iload_n 3, 1) := dk_29 (dk_at dksX5_isSo_6 7 rfl rfl)
theorem dX5_isSo_150 : decode cX5_isSo 150 = .ok (.baload, 1) := dk_51 (dk_at dksX5_isSo_6 8 rfl rfl)
theorem dX5_isSo_151 : decode cX5_isSo 151 = .ok (.ifCond .eq 7, 3) := dk_153 0 7 (dk_at dksX5_isSo_6 9 rfl rfl)
theorem dX5_isSo_154 : decode cX5_isSo 154 = .ok (.iconst 1, 1) := dk_4 (dk_at dksX5_isSo_6 12 rfl rfl)
theorem dX5_isSo_155 : decode cX5_isSo 155 = .ok (.goto 4, 3) := dk_167 0 4 (dk_at dksX5_isSo_6 13 rfl rfl)
theorem dX5_isSo_158 : decode cX5_isSo 158 = .ok (.iconst 0, 1) := dk_3 (dk_at dksX5_isSo_6 16 rfl rfl)
theorem dX5_isSo_159 : decode cX5_isSo 159 = .ok (.bastore, 1) := dk_84 (dk_at dksX5_isSo_6 17 rfl rfl)
theorem dX5_isSo_160 : decode cX5_isSo 160 = .ok (.goto 33, 3) := dk_167 0 33 (dk_at dksX5_isSo_6 18 rfl rfl)
theorem dX5_isSo_163 : decode cX5_isSo 163 = .ok (.aload_n 0, 1) := dk_42 (dk_at dksX5_isSo_6 21 rfl rfl)
theorem dX5_isSo_164 : decode cX5_isSo 164 = .ok (.getfield 39, 3) := dk_180 0 39 (dk_at dksX5_isSo_7 0 rfl rfl)
theorem dX5_isSo_167 : decode cX5_isSo 167 = .ok (.iload_n 3, 1) := dk_29 (dk_at dksX5_isSo_7 3 rfl rfl)
theorem dX5_isSo_168 : decode cX5_isSo 168 = .ok (.aload_n 0, 1) := dk_42 (dk_at dksX5_isSo_7 4 rfl rfl)
theorem dX5_isSo_169 : decode cX5_isSo 169 = .ok (.iload 5, 2) := dk_21 5 (dk_at dksX5_isSo_7 5 rfl rfl)
theorem dX5_isSo_171 : decode cX5_isSo 171 = .ok (.aload_n 0, 1) := dk_42 (dk_at dksX5_isSo_7 7 rfl rfl)
theorem dX5_isSo_172 : decode cX5_isSo 172 = .ok (.getfield 17, 3) := dk_180 0 17 (dk_at dksX5_isSo_7 8 rfl rfl)
theorem dX5_isSo_175 : decode cX5_isSo 175 = .ok (.bipush 77, 2) := dk_16 77 (dk_at dksX5_isSo_7 11 rfl rfl)
theorem dX5_isSo_177 : decode cX5_isSo 177 = .ok (.iconst 2, 1) := dk_5 (dk_at dksX5_isSo_7 13 rfl rfl)
theorem dX5_isSo_178 : decode cX5_isSo 178 = .ok (.iload 4, 2) := dk_21 4 (dk_at dksX5_isSo_7 14 rfl rfl)
theorem dX5_isSo_180 : decode cX5_isSo 180 = .ok (.imul, 1) := dk_104 (dk_at dksX5_isSo_7 16 rfl rfl)
theorem dX5_isSo_181 : decode cX5_isSo 181 = .ok (.iadd, 1) := dk_96 (dk_at dksX5_isSo_7 17 rfl rfl)
theorem dX5_isSo_182 : decode cX5_isSo 182 = .ok (.iconst 1, 1) := dk_4 (dk_at dksX5_isSo_7 18 rfl rfl)
theorem dX5_isSo_183 : decode cX5_isSo 183 = .ok (.iadd, 1) := dk_96 (dk_at dksX5_isSo_7 19 rfl rfl)
theorem dX5_isSo_184 : decode cX5_isSo 184 = .ok (.iaload, 1) := dk_46 (dk_at dksX5_isSo_7 20 rfl rfl)
theorem dX5_isSo_185 : decode cX5_isSo 185 = .ok (.iload_n 2, 1) := dk_28 (dk_at dksX5_isSo_7 21 rfl rfl)
theorem dX5_isSo_186 : decode cX5_isSo 186 = .ok (.invokevirtual 232, 3) := dk_182 0 232 (dk_at dksX5_isSo_8 0 rfl rfl)
theorem dX5_isSo_189 : decode cX5_isSo 189 = .ok (.bastore, 1) := dk_84 (dk_at dksX5_isSo_8 3 rfl rfl)
theorem dX5_isSo_190 : decode cX5_isSo 190 = .ok (.iinc 3 1, 3) := dk_132 3 1 (dk_at dksX5_isSo_8 4 rfl rfl)
theorem dX5_isSo_193 : decode cX5_isSo 193 = .ok (.iinc 4 1, 3) := dk_132 4 1 (dk_at dksX5_isSo_8 7 rfl rfl)
theorem dX5_isSo_196 : decode cX5_isSo 196 = .ok (.goto (-183), 3) := dk_167 255 73 (dk_at dksX5_isSo_8 10 rfl rfl)
theorem dX5_isSo_199 : decode cX5_isSo 199 = .ok (.aload_n 0, 1) := dk_42 (dk_at dksX5_isSo_8 13 rfl rfl)
theorem dX5_isSo_200 : decode cX5_isSo 200 = .ok (.getfield 39, 3) := dk_180 0 39 (dk_at dksX5_isSo_8 14 rfl rfl)
theorem dX5_isSo_203 : decode cX5_isSo 203 = .ok (.iconst 0, 1) := dk_3 (dk_at dksX5_isSo_8 17 rfl rfl)
theorem dX5_isSo_204 : decode cX5_isSo 204 = .ok (.baload, 1) := dk_51 (dk_at dksX5_isSo_8 18 rfl rfl)
theorem dX5_isSo_205 : decode cX5_isSo 205 = .ok (.ireturn, 1) := dk_172 (dk_at dksX5_isSo_8 19 rfl rfl)
abbrev cX5_fact : ByteArray := prog_21_method_36_code
def yX5_fact : MethodName := ⟨RX5, "fact", "(III)Z"⟩
def dkwX5_fact_9 : List UInt8 := [160, 0, 7, 4, 167, 0, 4, 3, 172]
abbrev dktX5_fact_9 : List UInt8 := dkwX5_fact_9 ++ []
def dkwX5_fact_8 : List UInt8 := [46, 182, 0, 228, 172, 42, 180, 0, 33, 16, 32, 46, 157, 0, 14, 42, 180, 0, 33, 16, 33, 46, 4]
abbrev dktX5_fact_8 : List UInt8 := dkwX5_fact_8 ++ dktX5_fact_9
def dkwX5_fact_7 : List UInt8 := [96, 21, 4, 5, 17, 3, 232, 182, 0, 228, 172, 42, 3, 6, 21, 4, 4, 42, 180, 0, 33, 3, 29, 96]
abbrev dktX5_fact_7 : List UInt8 := dkwX5_fact_7 ++ dktX5_fact_8
def dkwX5_fact_6 : List UInt8 := [21, 4, 2, 5, 42, 180, 0, 33, 3, 29, 96, 46, 182, 0, 228, 172, 42, 21, 4, 4, 100, 21, 4, 4]
abbrev dktX5_fact_6 : List UInt8 := dkwX5_fact_6 ++ dktX5_fact_7
def dkwX5_fact_5 : List UInt8 := [172, 42, 180, 0, 17, 16, 26, 29, 96, 46, 28, 160, 0, 7, 4, 167, 0, 4, 3, 172, 42, 21, 4]
abbrev dktX5_fact_5 : List UInt8 := dkwX5_fact_5 ++ dktX5_fact_6
def dkwX5_fact_4 : List UInt8 := [29, 96, 46, 28, 161, 0, 7, 4, 167, 0, 4, 3, 172, 21, 4, 28, 160, 0, 7, 4, 167, 0, 4, 3]
abbrev dktX5_fact_4 : List UInt8 := dkwX5_fact_4 ++ dktX5_fact_5
def dkwX5_fact_3 : List UInt8 := [42, 180, 0, 33, 3, 29, 96, 46, 28, 162, 0, 7, 4, 167, 0, 4, 3, 172, 42, 180, 0, 33, 16, 8]
abbrev dktX5_fact_3 : List UInt8 := dkwX5_fact_3 ++ dktX5_fact_4
def dkwX5_fact_2 : List UInt8 := [170, 0, 0, 0, 0, 0, 235, 0, 0, 0, 4, 0, 0, 0, 27, 0, 0, 0, 160, 0, 0, 0, 235, 0, 0, 0, 235, 0, 0, 0, 235, 0, 0, 0, 235, 0, 0, 0, 235, 0, 0, 0, 235, 0, 0, 0, 235, 0, 0, 0, 235, 0, 0, 0, 235, 0, 0, 0, 235, 0, 0, 0, 235, 0, 0, 0, 235, 0, 0, 0, 235, 0, 0, 0, 235, 0, 0, 0, 235, 0, 0, 0, 235, 0, 0, 0, 235, 0, 0, 0, 111, 0, 0, 0, 129, 0, 0, 0, 148, 0, 0, 0, 179, 0, 0, 0, 198, 0, 0, 0, 217]
abbrev dktX5_fact_2 : List UInt8 := dkwX5_fact_2 ++ dktX5_fact_3
def dkwX5_fact_1 : List UInt8 := [180, 0, 17, 5, 29, 96, 46, 54, 4, 27]
abbrev dktX5_fact_1 : List UInt8 := dkwX5_fact_1 ++ dktX5_fact_2
def dkwX5_fact_0 : List UInt8 := [27, 133, 20, 0, 172, 20, 0, 174, 184, 0, 152, 153, 0, 11, 42, 27, 8, 100, 182, 0, 225, 172, 42]
abbrev dktX5_fact_0 : List UInt8 := dkwX5_fact_0 ++ dktX5_fact_1
theorem dksX5_fact_0 : cX5_fact.data.toList.drop 0 = dktX5_fact_0 := by decide +kernel
theorem dksX5_fact_1 : cX5_fact.data.toList.drop 23 = dktX5_fact_1 := dk_seg dksX5_fact_0 23 rfl rfl
theorem dksX5_fact_2 : cX5_fact.data.toList.drop 33 = dktX5_fact_2 := dk_seg dksX5_fact_1 10 rfl rfl
theorem dksX5_fact_3 : cX5_fact.data.toList.drop 144 = dktX5_fact_3 := dk_seg dksX5_fact_2 111 rfl rfl
theorem dksX5_fact_4 : cX5_fact.data.toList.drop 168 = dktX5_fact_4 := dk_seg dksX5_fact_3 24 rfl rfl
theorem dksX5_fact_5 : cX5_fact.data.toList.drop 192 = dktX5_fact_5 := dk_seg dksX5_fact_4 24 rfl rfl
theorem dksX5_fact_6 : cX5_fact.data.toList.drop 215 = dktX5_fact_6 := dk_seg dksX5_fact_5 23 rfl rfl
theorem dksX5_fact_7 : cX5_fact.data.toList.drop 239 = dktX5_fact_7 := dk_seg dksX5_fact_6 24 rfl rfl
theorem dksX5_fact_8 : cX5_fact.data.toList.drop 263 = dktX5_fact_8 := dk_seg dksX5_fact_7 24 rfl rfl
theorem dksX5_fact_9 : cX5_fact.data.toList.drop 286 = dktX5_fact_9 := dk_seg dksX5_fact_8 23 rfl rfl
theorem dX5_fact_0 : decode cX5_fact 0 = .ok (.iload_n 1, 1) := dk_27 (dk_at dksX5_fact_0 0 rfl rfl)
theorem dX5_fact_1 : decode cX5_fact 1 = .ok (.i2l, 1) := dk_133 (dk_at dksX5_fact_0 1 rfl rfl)
theorem dX5_fact_2 : decode cX5_fact 2 = .ok (.ldc2_w 172, 3) := dk_20 0 172 (dk_at dksX5_fact_0 2 rfl rfl)
theorem dX5_fact_5 : decode cX5_fact 5 = .ok (.ldc2_w 174, 3) := dk_20 0 174 (dk_at dksX5_fact_0 5 rfl rfl)
theorem dX5_fact_8 : decode cX5_fact 8 = .ok (.invokestatic 152, 3) := dk_184 0 152 (dk_at dksX5_fact_0 8 rfl rfl)
theorem dX5_fact_11 : decode cX5_fact 11 = .ok (.ifCond .eq 11, 3) := dk_153 0 11 (dk_at dksX5_fact_0 11 rfl rfl)
theorem dX5_fact_14 : decode cX5_fact 14 = .ok (.aload_n 0, 1) := dk_42 (dk_at dksX5_fact_0 14 rfl rfl)
theorem dX5_fact_15 : decode cX5_fact 15 = .ok (.iload_n 1, 1) := dk_27 (dk_at dksX5_fact_0 15 rfl rfl)
theorem dX5_fact_16 : decode cX5_fact 16 = .ok (.iconst 5, 1) := dk_8 (dk_at dksX5_fact_0 16 rfl rfl)
theorem dX5_fact_17 : decode cX5_fact 17 = .ok (.isub, 1) := dk_100 (dk_at dksX5_fact_0 17 rfl rfl)
theorem dX5_fact_18 : decode cX5_fact 18 = .ok (.invokevirtual 225, 3) := dk_182 0 225 (dk_at dksX5_fact_0 18 rfl rfl)
theorem dX5_fact_21 : decode cX5_fact 21 = .ok (.ireturn, 1) := dk_172 (dk_at dksX5_fact_0 21 rfl rfl)
theorem dX5_fact_22 : decode cX5_fact 22 = .ok (.aload_n 0, 1) := dk_42 (dk_at dksX5_fact_0 22 rfl rfl)
theorem dX5_fact_23 : decode cX5_fact 23 = .ok (.getfield 17, 3) := dk_180 0 17 (dk_at dksX5_fact_1 0 rfl rfl)
theorem dX5_fact_26 : decode cX5_fact 26 = .ok (.iconst 2, 1) := dk_5 (dk_at dksX5_fact_1 3 rfl rfl)
theorem dX5_fact_27 : decode cX5_fact 27 = .ok (.iload_n 3, 1) := dk_29 (dk_at dksX5_fact_1 4 rfl rfl)
theorem dX5_fact_28 : decode cX5_fact 28 = .ok (.iadd, 1) := dk_96 (dk_at dksX5_fact_1 5 rfl rfl)
theorem dX5_fact_29 : decode cX5_fact 29 = .ok (.iaload, 1) := dk_46 (dk_at dksX5_fact_1 6 rfl rfl)
theorem dX5_fact_30 : decode cX5_fact 30 = .ok (.istore 4, 2) := dk_54 4 (dk_at dksX5_fact_1 7 rfl rfl)
theorem dX5_fact_32 : decode cX5_fact 32 = .ok (.iload_n 1, 1) := dk_27 (dk_at dksX5_fact_1 9 rfl rfl)
theorem dX5_fact_33 : decode cX5_fact 33 = .ok (.tableswitch 235 4 27 #[160, 235, 235, 235, 235, 235, 235, 235, 235, 235, 235, 235, 235, 235, 235, 235, 235, 235, 111, 129, 148, 179, 198, 217], 111) := by decide +kernel
theorem dX5_fact_144 : decode cX5_fact 144 = .ok (.aload_n 0, 1) := dk_42 (dk_at dksX5_fact_3 0 rfl rfl)
theorem dX5_fact_145 : decode cX5_fact 145 = .ok (.getfield 33, 3) := dk_180 0 33 (dk_at dksX5_fact_3 1 rfl rfl)
theorem dX5_fact_148 : decode cX5_fact 148 = .ok (.iconst 0, 1) := dk_3 (dk_at dksX5_fact_3 4 rfl rfl)
theorem dX5_fact_149 : decode cX5_fact 149 = .ok (.iload_n 3, 1) := dk_29 (dk_at dksX5_fact_3 5 rfl rfl)
theorem dX5_fact_150 : decode cX5_fact 150 = .ok (.iadd, 1) := dk_96 (dk_at dksX5_fact_3 6 rfl rfl)
theorem dX5_fact_151 : decode cX5_fact 151 = .ok (.iaload, 1) := dk_46 (dk_at dksX5_fact_3 7 rfl rfl)
theorem dX5_fact_152 : decode cX5_fact 152 = .ok (.iload_n 2, 1) := dk_28 (dk_at dksX5_fact_3 8 rfl rfl)
theorem dX5_fact_153 : decode cX5_fact 153 = .ok (.if_icmp .ge 7, 3) := dk_162 0 7 (dk_at dksX5_fact_3 9 rfl rfl)
theorem dX5_fact_156 : decode cX5_fact 156 = .ok (.iconst 1, 1) := dk_4 (dk_at dksX5_fact_3 12 rfl rfl)
theorem dX5_fact_157 : decode cX5_fact 157 = .ok (.goto 4, 3) := dk_167 0 4 (dk_at dksX5_fact_3 13 rfl rfl)
theorem dX5_fact_160 : decode cX5_fact 160 = .ok (.iconst 0, 1) := dk_3 (dk_at dksX5_fact_3 16 rfl rfl)
theorem dX5_fact_161 : decode cX5_fact 161 = .ok (.ireturn, 1) := dk_172 (dk_at dksX5_fact_3 17 rfl rfl)
theorem dX5_fact_162 : decode cX5_fact 162 = .ok (.aload_n 0, 1) := dk_42 (dk_at dksX5_fact_3 18 rfl rfl)
theorem dX5_fact_163 : decode cX5_fact 163 = .ok (.getfield 33, 3) := dk_180 0 33 (dk_at dksX5_fact_3 19 rfl rfl)
theorem dX5_fact_166 : decode cX5_fact 166 = .ok (.bipush 8, 2) := dk_16 8 (dk_at dksX5_fact_3 22 rfl rfl)
theorem dX5_fact_168 : decode cX5_fact 168 = .ok (.iload_n 3, 1) := dk_29 (dk_at dksX5_fact_4 0 rfl rfl)
theorem dX5_fact_169 : decode cX5_fact 169 = .ok (.iadd, 1) := dk_96 (dk_at dksX5_fact_4 1 rfl rfl)
theorem dX5_fact_170 : decode cX5_fact 170 = .ok (.iaload, 1) := dk_46 (dk_at dksX5_fact_4 2 rfl rfl)
theorem dX5_fact_171 : decode cX5_fact 171 = .ok (.iload_n 2, 1) := dk_28 (dk_at dksX5_fact_4 3 rfl rfl)
theorem dX5_fact_172 : decode cX5_fact 172 = .ok (.if_icmp .lt 7, 3) := dk_161 0 7 (dk_at dksX5_fact_4 4 rfl rfl)
theorem dX5_fact_175 : decode cX5_fact 175 = .ok (.iconst 1, 1) := dk_4 (dk_at dksX5_fact_4 7 rfl rfl)
theorem dX5_fact_176 : decode cX5_fact 176 = .ok (.goto 4, 3) := dk_167 0 4 (dk_at dksX5_fact_4 8 rfl rfl)
theorem dX5_fact_179 : decode cX5_fact 179 = .ok (.iconst 0, 1) := dk_3 (dk_at dksX5_fact_4 11 rfl rfl)
theorem dX5_fact_180 : decode cX5_fact 180 = .ok (.ireturn, 1) := dk_172 (dk_at dksX5_fact_4 12 rfl rfl)
theorem dX5_fact_181 : decode cX5_fact 181 = .ok (.iload 4, 2) := dk_21 4 (dk_at dksX5_fact_4 13 rfl rfl)
theorem dX5_fact_183 : decode cX5_fact 183 = .ok (.iload_n 2, 1) := dk_28 (dk_at dksX5_fact_4 15 rfl rfl)
theorem dX5_fact_184 : decode cX5_fact 184 = .ok (.if_icmp .ne 7, 3) := dk_160 0 7 (dk_at dksX5_fact_4 16 rfl rfl)
theorem dX5_fact_187 : decode cX5_fact 187 = .ok (.iconst 1, 1) := dk_4 (dk_at dksX5_fact_4 19 rfl rfl)
theorem dX5_fact_188 : decode cX5_fact 188 = .ok (.goto 4, 3) := dk_167 0 4 (dk_at dksX5_fact_4 20 rfl rfl)
theorem dX5_fact_191 : decode cX5_fact 191 = .ok (.iconst 0, 1) := dk_3 (dk_at dksX5_fact_4 23 rfl rfl)
theorem dX5_fact_192 : decode cX5_fact 192 = .ok (.ireturn, 1) := dk_172 (dk_at dksX5_fact_5 0 rfl rfl)
theorem dX5_fact_193 : decode cX5_fact 193 = .ok (.aload_n 0, 1) := dk_42 (dk_at dksX5_fact_5 1 rfl rfl)
theorem dX5_fact_194 : decode cX5_fact 194 = .ok (.getfield 17, 3) := dk_180 0 17 (dk_at dksX5_fact_5 2 rfl rfl)
theorem dX5_fact_197 : decode cX5_fact 197 = .ok (.bipush 26, 2) := dk_16 26 (dk_at dksX5_fact_5 5 rfl rfl)
theorem dX5_fact_199 : decode cX5_fact 199 = .ok (.iload_n 3, 1) := dk_29 (dk_at dksX5_fact_5 7 rfl rfl)
theorem dX5_fact_200 : decode cX5_fact 200 = .ok (.iadd, 1) := dk_96 (dk_at dksX5_fact_5 8 rfl rfl)
theorem dX5_fact_201 : decode cX5_fact 201 = .ok (.iaload, 1) := dk_46 (dk_at dksX5_fact_5 9 rfl rfl)
theorem dX5_fact_202 : decode cX5_fact 202 = .ok (.iload_n 2, 1) := dk_28 (dk_at dksX5_fact_5 10 rfl rfl)
theorem dX5_fact_203 : decode cX5_fact 203 = .ok (.if_icmp .ne 7, 3) := dk_160 0 7 (dk_at dksX5_fact_5 11 rfl rfl)
theorem dX5_fact_206 : decode cX5_fact 206 = .ok (.iconst 1, 1) := dk_4 (dk_at dksX5_fact_5 14 rfl rfl)
theorem dX5_fact_207 : decode cX5_fact 207 = .ok (.goto 4, 3) := dk_167 0 4 (dk_at dksX5_fact_5 15 rfl rfl)
theorem dX5_fact_210 : decode cX5_fact 210 = .ok (.iconst 0, 1) := dk_3 (dk_at dksX5_fact_5 18 rfl rfl)
theorem dX5_fact_211 : decode cX5_fact 211 = .ok (.ireturn, 1) := dk_172 (dk_at dksX5_fact_5 19 rfl rfl)
theorem dX5_fact_212 : decode cX5_fact 212 = .ok (.aload_n 0, 1) := dk_42 (dk_at dksX5_fact_5 20 rfl rfl)
theorem dX5_fact_213 : decode cX5_fact 213 = .ok (.iload 4, 2) := dk_21 4 (dk_at dksX5_fact_5 21 rfl rfl)
theorem dX5_fact_215 : decode cX5_fact 215 = .ok (.iload 4, 2) := dk_21 4 (dk_at dksX5_fact_6 0 rfl rfl)
theorem dX5_fact_217 : decode cX5_fact 217 = .ok (.iconst (-1), 1) := dk_2 (dk_at dksX5_fact_6 2 rfl rfl)
theorem dX5_fact_218 : decode cX5_fact 218 = .ok (.iconst 2, 1) := dk_5 (dk_at dksX5_fact_6 3 rfl rfl)
theorem dX5_fact_219 : decode cX5_fact 219 = .ok (.aload_n 0, 1) := dk_42 (dk_at dksX5_fact_6 4 rfl rfl)
theorem dX5_fact_220 : decode cX5_fact 220 = .ok (.getfield 33, 3) := dk_180 0 33 (dk_at dksX5_fact_6 5 rfl rfl)
theorem dX5_fact_223 : decode cX5_fact 223 = .ok (.iconst 0, 1) := dk_3 (dk_at dksX5_fact_6 8 rfl rfl)
theorem dX5_fact_224 : decode cX5_fact 224 = .ok (.iload_n 3, 1) := dk_29 (dk_at dksX5_fact_6 9 rfl rfl)
theorem dX5_fact_225 : decode cX5_fact 225 = .ok (.iadd, 1) := dk_96 (dk_at dksX5_fact_6 10 rfl rfl)
theorem dX5_fact_226 : decode cX5_fact 226 = .ok (.iaload, 1) := dk_46 (dk_at dksX5_fact_6 11 rfl rfl)
theorem dX5_fact_227 : decode cX5_fact 227 = .ok (.invokevirtual 228, 3) := dk_182 0 228 (dk_at dksX5_fact_6 12 rfl rfl)
theorem dX5_fact_230 : decode cX5_fact 230 = .ok (.ireturn, 1) := dk_172 (dk_at dksX5_fact_6 15 rfl rfl)
theorem dX5_fact_231 : decode cX5_fact 231 = .ok (.aload_n 0, 1) := dk_42 (dk_at dksX5_fact_6 16 rfl rfl)
theorem dX5_fact_232 : decode cX5_fact 232 = .ok (.iload 4, 2) := dk_21 4 (dk_at dksX5_fact_6 17 rfl rfl)
theorem dX5_fact_234 : decode cX5_fact 234 = .ok (.iconst 1, 1) := dk_4 (dk_at dksX5_fact_6 19 rfl rfl)
theorem dX5_fact_235 : decode cX5_fact 235 = .ok (.isub, 1) := dk_100 (dk_at dksX5_fact_6 20 rfl rfl)
theorem dX5_fact_236 : decode cX5_fact 236 = .ok (.iload 4, 2) := dk_21 4 (dk_at dksX5_fact_6 21 rfl rfl)
theorem dX5_fact_238 : decode cX5_fact 238 = .ok (.iconst 1, 1) := dk_4 (dk_at dksX5_fact_6 23 rfl rfl)
theorem dX5_fact_239 : decode cX5_fact 239 = .ok (.iadd, 1) := dk_96 (dk_at dksX5_fact_7 0 rfl rfl)
theorem dX5_fact_240 : decode cX5_fact 240 = .ok (.iload 4, 2) := dk_21 4 (dk_at dksX5_fact_7 1 rfl rfl)
theorem dX5_fact_242 : decode cX5_fact 242 = .ok (.iconst 2, 1) := dk_5 (dk_at dksX5_fact_7 3 rfl rfl)
theorem dX5_fact_243 : decode cX5_fact 243 = .ok (.sipush 1000, 3) := dk_17 3 232 (dk_at dksX5_fact_7 4 rfl rfl)
theorem dX5_fact_246 : decode cX5_fact 246 = .ok (.invokevirtual 228, 3) := dk_182 0 228 (dk_at dksX5_fact_7 7 rfl rfl)
theorem dX5_fact_249 : decode cX5_fact 249 = .ok (.ireturn, 1) := dk_172 (dk_at dksX5_fact_7 10 rfl rfl)
theorem dX5_fact_250 : decode cX5_fact 250 = .ok (.aload_n 0, 1) := dk_42 (dk_at dksX5_fact_7 11 rfl rfl)
theorem dX5_fact_251 : decode cX5_fact 251 = .ok (.iconst 0, 1) := dk_3 (dk_at dksX5_fact_7 12 rfl rfl)
theorem dX5_fact_252 : decode cX5_fact 252 = .ok (.iconst 3, 1) := dk_6 (dk_at dksX5_fact_7 13 rfl rfl)
theorem dX5_fact_253 : decode cX5_fact 253 = .ok (.iload 4, 2) := dk_21 4 (dk_at dksX5_fact_7 14 rfl rfl)
theorem dX5_fact_255 : decode cX5_fact 255 = .ok (.iconst 1, 1) := dk_4 (dk_at dksX5_fact_7 16 rfl rfl)
theorem dX5_fact_256 : decode cX5_fact 256 = .ok (.aload_n 0, 1) := dk_42 (dk_at dksX5_fact_7 17 rfl rfl)
theorem dX5_fact_257 : decode cX5_fact 257 = .ok (.getfield 33, 3) := dk_180 0 33 (dk_at dksX5_fact_7 18 rfl rfl)
theorem dX5_fact_260 : decode cX5_fact 260 = .ok (.iconst 0, 1) := dk_3 (dk_at dksX5_fact_7 21 rfl rfl)
theorem dX5_fact_261 : decode cX5_fact 261 = .ok (.iload_n 3, 1) := dk_29 (dk_at dksX5_fact_7 22 rfl rfl)
theorem dX5_fact_262 : decode cX5_fact 262 = .ok (.iadd, 1) := dk_96 (dk_at dksX5_fact_7 23 rfl rfl)
theorem dX5_fact_263 : decode cX5_fact 263 = .ok (.iaload, 1) := dk_46 (dk_at dksX5_fact_8 0 rfl rfl)
theorem dX5_fact_264 : decode cX5_fact 264 = .ok (.invokevirtual 228, 3) := dk_182 0 228 (dk_at dksX5_fact_8 1 rfl rfl)
theorem dX5_fact_267 : decode cX5_fact 267 = .ok (.ireturn, 1) := dk_172 (dk_at dksX5_fact_8 4 rfl rfl)
theorem dX5_fact_268 : decode cX5_fact 268 = .ok (.aload_n 0, 1) := dk_42 (dk_at dksX5_fact_8 5 rfl rfl)
theorem dX5_fact_269 : decode cX5_fact 269 = .ok (.getfield 33, 3) := dk_180 0 33 (dk_at dksX5_fact_8 6 rfl rfl)
theorem dX5_fact_272 : decode cX5_fact 272 = .ok (.bipush 32, 2) := dk_16 32 (dk_at dksX5_fact_8 9 rfl rfl)
theorem dX5_fact_274 : decode cX5_fact 274 = .ok (.iaload, 1) := dk_46 (dk_at dksX5_fact_8 11 rfl rfl)
theorem dX5_fact_275 : decode cX5_fact 275 = .ok (.ifCond .gt 14, 3) := dk_157 0 14 (dk_at dksX5_fact_8 12 rfl rfl)
theorem dX5_fact_278 : decode cX5_fact 278 = .ok (.aload_n 0, 1) := dk_42 (dk_at dksX5_fact_8 15 rfl rfl)
theorem dX5_fact_279 : decode cX5_fact 279 = .ok (.getfield 33, 3) := dk_180 0 33 (dk_at dksX5_fact_8 16 rfl rfl)
theorem dX5_fact_282 : decode cX5_fact 282 = .ok (.bipush 33, 2) := dk_16 33 (dk_at dksX5_fact_8 19 rfl rfl)
theorem dX5_fact_284 : decode cX5_fact 284 = .ok (.iaload, 1) := dk_46 (dk_at dksX5_fact_8 21 rfl rfl)
theorem dX5_fact_285 : decode cX5_fact 285 = .ok (.iconst 1, 1) := dk_4 (dk_at dksX5_fact_8 22 rfl rfl)
theorem dX5_fact_286 : decode cX5_fact 286 = .ok (.if_icmp .ne 7, 3) := dk_160 0 7 (dk_at dksX5_fact_9 0 rfl rfl)
theorem dX5_fact_289 : decode cX5_fact 289 = .ok (.iconst 1, 1) := dk_4 (dk_at dksX5_fact_9 3 rfl rfl)
theorem dX5_fact_290 : decode cX5_fact 290 = .ok (.goto 4, 3) := dk_167 0 4 (dk_at dksX5_fact_9 4 rfl rfl)
theorem dX5_fact_293 : decode cX5_fact 293 = .ok (.iconst 0, 1) := dk_3 (dk_at dksX5_fact_9 7 rfl rfl)
theorem dX5_fact_294 : decode cX5_fact 294 = .ok (.ireturn, 1) := dk_172 (dk_at dksX5_fact_9 8 rfl rfl)
abbrev cX5_isSome : ByteArray := prog_21_method_35_code
def yX5_isSome : MethodName := ⟨RX5, "isSome", "(IIIII)Z"⟩
def dkwX5_isSome_3 : List UInt8 := [180, 0, 33, 3, 21, 6, 96, 46, 21, 5, 162, 0, 5, 4, 172, 132, 6, 1, 167, 255, 170, 3, 172]
abbrev dktX5_isSome_3 : List UInt8 := dkwX5_isSome_3 ++ []
def dkwX5_isSome_2 : List UInt8 := [16, 16, 21, 6, 96, 46, 21, 4, 160, 0, 31, 42, 180, 0, 33, 3, 21, 6, 96, 46, 158, 0, 19, 42]
abbrev dktX5_isSome_2 : List UInt8 := dkwX5_isSome_2 ++ dktX5_isSome_3
def dkwX5_isSome_1 : List UInt8 := [54, 7, 21, 7, 27, 161, 0, 58, 21, 7, 28, 163, 0, 52, 21, 7, 29, 159, 0, 46, 42, 180, 0, 33]
abbrev dktX5_isSome_1 : List UInt8 := dkwX5_isSome_1 ++ dktX5_isSome_2
def dkwX5_isSome_0 : List UInt8 := [3, 54, 6, 21, 6, 42, 180, 0, 17, 4, 46, 162, 0, 81, 42, 180, 0, 17, 5, 21, 6, 96, 46]
abbrev dktX5_isSome_0 : List UInt8 := dkwX5_isSome_0 ++ dktX5_isSome_1
theorem dksX5_isSome_0 : cX5_isSome.data.toList.drop 0 = dktX5_isSome_0 := by decide +kernel
theorem dksX5_isSome_1 : cX5_isSome.data.toList.drop 23 = dktX5_isSome_1 := dk_seg dksX5_isSome_0 23 rfl rfl
theorem dksX5_isSome_2 : cX5_isSome.data.toList.drop 47 = dktX5_isSome_2 := dk_seg dksX5_isSome_1 24 rfl rfl
theorem dksX5_isSome_3 : cX5_isSome.data.toList.drop 71 = dktX5_isSome_3 := dk_seg dksX5_isSome_2 24 rfl rfl
theorem dX5_isSome_0 : decode cX5_isSome 0 = .ok (.iconst 0, 1) := dk_3 (dk_at dksX5_isSome_0 0 rfl rfl)
theorem dX5_isSome_1 : decode cX5_isSome 1 = .ok (.istore 6, 2) := dk_54 6 (dk_at dksX5_isSome_0 1 rfl rfl)
theorem dX5_isSome_3 : decode cX5_isSome 3 = .ok (.iload 6, 2) := dk_21 6 (dk_at dksX5_isSome_0 3 rfl rfl)
theorem dX5_isSome_5 : decode cX5_isSome 5 = .ok (.aload_n 0, 1) := dk_42 (dk_at dksX5_isSome_0 5 rfl rfl)
theorem dX5_isSome_6 : decode cX5_isSome 6 = .ok (.getfield 17, 3) := dk_180 0 17 (dk_at dksX5_isSome_0 6 rfl rfl)
theorem dX5_isSome_9 : decode cX5_isSome 9 = .ok (.iconst 1, 1) := dk_4 (dk_at dksX5_isSome_0 9 rfl rfl)
theorem dX5_isSome_10 : decode cX5_isSome 10 = .ok (.iaload, 1) := dk_46 (dk_at dksX5_isSome_0 10 rfl rfl)
theorem dX5_isSome_11 : decode cX5_isSome 11 = .ok (.if_icmp .ge 81, 3) := dk_162 0 81 (dk_at dksX5_isSome_0 11 rfl rfl)
theorem dX5_isSome_14 : decode cX5_isSome 14 = .ok (.aload_n 0, 1) := dk_42 (dk_at dksX5_isSome_0 14 rfl rfl)
theorem dX5_isSome_15 : decode cX5_isSome 15 = .ok (.getfield 17, 3) := dk_180 0 17 (dk_at dksX5_isSome_0 15 rfl rfl)
theorem dX5_isSome_18 : decode cX5_isSome 18 = .ok (.iconst 2, 1) := dk_5 (dk_at dksX5_isSome_0 18 rfl rfl)
theorem dX5_isSome_19 : decode cX5_isSome 19 = .ok (.iload 6, 2) := dk_21 6 (dk_at dksX5_isSome_0 19 rfl rfl)
theorem dX5_isSome_21 : decode cX5_isSome 21 = .ok (.iadd, 1) := dk_96 (dk_at dksX5_isSome_0 21 rfl rfl)
theorem dX5_isSome_22 : decode cX5_isSome 22 = .ok (.iaload, 1) := dk_46 (dk_at dksX5_isSome_0 22 rfl rfl)
theorem dX5_isSome_23 : decode cX5_isSome 23 = .ok (.istore 7, 2) := dk_54 7 (dk_at dksX5_isSome_1 0 rfl rfl)
theorem dX5_isSome_25 : decode cX5_isSome 25 = .ok (.iload 7, 2) := dk_21 7 (dk_at dksX5_isSome_1 2 rfl rfl)
theorem dX5_isSome_27 : decode cX5_isSome 27 = .ok (.iload_n 1, 1) := dk_27 (dk_at dksX5_isSome_1 4 rfl rfl)
theorem dX5_isSome_28 : decode cX5_isSome 28 = .ok (.if_icmp .lt 58, 3) := dk_161 0 58 (dk_at dksX5_isSome_1 5 rfl rfl)
theorem dX5_isSome_31 : decode cX5_isSome 31 = .ok (.iload 7, 2) := dk_21 7 (dk_at dksX5_isSome_1 8 rfl rfl)
theorem dX5_isSome_33 : decode cX5_isSome 33 = .ok (.iload_n 2, 1) := dk_28 (dk_at dksX5_isSome_1 10 rfl rfl)
theorem dX5_isSome_34 : decode cX5_isSome 34 = .ok (.if_icmp .gt 52, 3) := dk_163 0 52 (dk_at dksX5_isSome_1 11 rfl rfl)
theorem dX5_isSome_37 : decode cX5_isSome 37 = .ok (.iload 7, 2) := dk_21 7 (dk_at dksX5_isSome_1 14 rfl rfl)
theorem dX5_isSome_39 : decode cX5_isSome 39 = .ok (.iload_n 3, 1) := dk_29 (dk_at dksX5_isSome_1 16 rfl rfl)
theorem dX5_isSome_40 : decode cX5_isSome 40 = .ok (.if_icmp .eq 46, 3) := dk_159 0 46 (dk_at dksX5_isSome_1 17 rfl rfl)
theorem dX5_isSome_43 : decode cX5_isSome 43 = .ok (.aload_n 0, 1) := dk_42 (dk_at dksX5_isSome_1 20 rfl rfl)
theorem dX5_isSome_44 : decode cX5_isSome 44 = .ok (.getfield 33, 3) := dk_180 0 33 (dk_at dksX5_isSome_1 21 rfl rfl)
theorem dX5_isSome_47 : decode cX5_isSome 47 = .ok (.bipush 16, 2) := dk_16 16 (dk_at dksX5_isSome_2 0 rfl rfl)
theorem dX5_isSome_49 : decode cX5_isSome 49 = .ok (.iload 6, 2) := dk_21 6 (dk_at dksX5_isSome_2 2 rfl rfl)
theorem dX5_isSome_51 : decode cX5_isSome 51 = .ok (.iadd, 1) := dk_96 (dk_at dksX5_isSome_2 4 rfl rfl)
theorem dX5_isSome_52 : decode cX5_isSome 52 = .ok (.iaload, 1) := dk_46 (dk_at dksX5_isSome_2 5 rfl rfl)
theorem dX5_isSome_53 : decode cX5_isSome 53 = .ok (.iload 4, 2) := dk_21 4 (dk_at dksX5_isSome_2 6 rfl rfl)
theorem dX5_isSome_55 : decode cX5_isSome 55 = .ok (.if_icmp .ne 31, 3) := dk_160 0 31 (dk_at dksX5_isSome_2 8 rfl rfl)
theorem dX5_isSome_58 : decode cX5_isSome 58 = .ok (.aload_n 0, 1) := dk_42 (dk_at dksX5_isSome_2 11 rfl rfl)
theorem dX5_isSome_59 : decode cX5_isSome 59 = .ok (.getfield 33, 3) := dk_180 0 33 (dk_at dksX5_isSome_2 12 rfl rfl)
theorem dX5_isSome_62 : decode cX5_isSome 62 = .ok (.iconst 0, 1) := dk_3 (dk_at dksX5_isSome_2 15 rfl rfl)
theorem dX5_isSome_63 : decode cX5_isSome 63 = .ok (.iload 6, 2) := dk_21 6 (dk_at dksX5_isSome_2 16 rfl rfl)
theorem dX5_isSome_65 : decode cX5_isSome 65 = .ok (.iadd, 1) := dk_96 (dk_at dksX5_isSome_2 18 rfl rfl)
theorem dX5_isSome_66 : decode cX5_isSome 66 = .ok (.iaload, 1) := dk_46 (dk_at dksX5_isSome_2 19 rfl rfl)
theorem dX5_isSome_67 : decode cX5_isSome 67 = .ok (.ifCond .le 19, 3) := dk_158 0 19 (dk_at dksX5_isSome_2 20 rfl rfl)
theorem dX5_isSome_70 : decode cX5_isSome 70 = .ok (.aload_n 0, 1) := dk_42 (dk_at dksX5_isSome_2 23 rfl rfl)
theorem dX5_isSome_71 : decode cX5_isSome 71 = .ok (.getfield 33, 3) := dk_180 0 33 (dk_at dksX5_isSome_3 0 rfl rfl)
theorem dX5_isSome_74 : decode cX5_isSome 74 = .ok (.iconst 0, 1) := dk_3 (dk_at dksX5_isSome_3 3 rfl rfl)
theorem dX5_isSome_75 : decode cX5_isSome 75 = .ok (.iload 6, 2) := dk_21 6 (dk_at dksX5_isSome_3 4 rfl rfl)
theorem dX5_isSome_77 : decode cX5_isSome 77 = .ok (.iadd, 1) := dk_96 (dk_at dksX5_isSome_3 6 rfl rfl)
theorem dX5_isSome_78 : decode cX5_isSome 78 = .ok (.iaload, 1) := dk_46 (dk_at dksX5_isSome_3 7 rfl rfl)
theorem dX5_isSome_79 : decode cX5_isSome 79 = .ok (.iload 5, 2) := dk_21 5 (dk_at dksX5_isSome_3 8 rfl rfl)
theorem dX5_isSome_81 : decode cX5_isSome 81 = .ok (.if_icmp .ge 5, 3) := dk_162 0 5 (dk_at dksX5_isSome_3 10 rfl rfl)
theorem dX5_isSome_84 : decode cX5_isSome 84 = .ok (.iconst 1, 1) := dk_4 (dk_at dksX5_isSome_3 13 rfl rfl)
theorem dX5_isSome_85 : decode cX5_isSome 85 = .ok (.ireturn, 1) := dk_172 (dk_at dksX5_isSome_3 14 rfl rfl)
theorem dX5_isSome_86 : decode cX5_isSome 86 = .ok (.iinc 6 1, 3) := dk_132 6 1 (dk_at dksX5_isSome_3 15 rfl rfl)
theorem dX5_isSome_89 : decode cX5_isSome 89 = .ok (.goto (-86), 3) := dk_167 255 170 (dk_at dksX5_isSome_3 18 rfl rfl)
theorem dX5_isSome_92 : decode cX5_isSome 92 = .ok (.iconst 0, 1) := dk_3 (dk_at dksX5_isSome_3 21 rfl rfl)
theorem dX5_isSome_93 : decode cX5_isSome 93 = .ok (.ireturn, 1) := dk_172 (dk_at dksX5_isSome_3 22 rfl rfl)
abbrev cX5_can : ByteArray := prog_21_method_41_code
def yX5_can : MethodName := ⟨RX5, "can", "(I)I"⟩
def dkwX5_can_1 : List UInt8 := [182, 0, 240, 42, 27, 182, 0, 246, 153, 0, 7, 4, 167, 0, 4, 3, 172]
abbrev dktX5_can_1 : List UInt8 := dkwX5_can_1 ++ []
def dkwX5_can_0 : List UInt8 := [42, 3, 181, 0, 1, 42, 27, 182, 0, 210, 154, 0, 10, 42, 16, 254, 182, 0, 89, 172, 42, 3]
abbrev dktX5_can_0 : List UInt8 := dkwX5_can_0 ++ dktX5_can_1
theorem dksX5_can_0 : cX5_can.data.toList.drop 0 = dktX5_can_0 := by decide +kernel
theorem dksX5_can_1 : cX5_can.data.toList.drop 22 = dktX5_can_1 := dk_seg dksX5_can_0 22 rfl rfl
theorem dX5_can_0 : decode cX5_can 0 = .ok (.aload_n 0, 1) := dk_42 (dk_at dksX5_can_0 0 rfl rfl)
theorem dX5_can_1 : decode cX5_can 1 = .ok (.iconst 0, 1) := dk_3 (dk_at dksX5_can_0 1 rfl rfl)
theorem dX5_can_2 : decode cX5_can 2 = .ok (.putfield 1, 3) := dk_181 0 1 (dk_at dksX5_can_0 2 rfl rfl)
theorem dX5_can_5 : decode cX5_can 5 = .ok (.aload_n 0, 1) := dk_42 (dk_at dksX5_can_0 5 rfl rfl)
theorem dX5_can_6 : decode cX5_can 6 = .ok (.iload_n 1, 1) := dk_27 (dk_at dksX5_can_0 6 rfl rfl)
theorem dX5_can_7 : decode cX5_can 7 = .ok (.invokevirtual 210, 3) := dk_182 0 210 (dk_at dksX5_can_0 7 rfl rfl)
theorem dX5_can_10 : decode cX5_can 10 = .ok (.ifCond .ne 10, 3) := dk_154 0 10 (dk_at dksX5_can_0 10 rfl rfl)
theorem dX5_can_13 : decode cX5_can 13 = .ok (.aload_n 0, 1) := dk_42 (dk_at dksX5_can_0 13 rfl rfl)
theorem dX5_can_14 : decode cX5_can 14 = .ok (.bipush (-2), 2) := dk_16 254 (dk_at dksX5_can_0 14 rfl rfl)
theorem dX5_can_16 : decode cX5_can 16 = .ok (.invokevirtual 89, 3) := dk_182 0 89 (dk_at dksX5_can_0 16 rfl rfl)
theorem dX5_can_19 : decode cX5_can 19 = .ok (.ireturn, 1) := dk_172 (dk_at dksX5_can_0 19 rfl rfl)
theorem dX5_can_20 : decode cX5_can 20 = .ok (.aload_n 0, 1) := dk_42 (dk_at dksX5_can_0 20 rfl rfl)
theorem dX5_can_21 : decode cX5_can 21 = .ok (.iconst 0, 1) := dk_3 (dk_at dksX5_can_0 21 rfl rfl)
theorem dX5_can_22 : decode cX5_can 22 = .ok (.invokevirtual 240, 3) := dk_182 0 240 (dk_at dksX5_can_1 0 rfl rfl)
theorem dX5_can_25 : decode cX5_can 25 = .ok (.aload_n 0, 1) := dk_42 (dk_at dksX5_can_1 3 rfl rfl)
theorem dX5_can_26 : decode cX5_can 26 = .ok (.iload_n 1, 1) := dk_27 (dk_at dksX5_can_1 4 rfl rfl)
theorem dX5_can_27 : decode cX5_can 27 = .ok (.invokevirtual 246, 3) := dk_182 0 246 (dk_at dksX5_can_1 5 rfl rfl)
theorem dX5_can_30 : decode cX5_can 30 = .ok (.ifCond .eq 7, 3) := dk_153 0 7 (dk_at dksX5_can_1 8 rfl rfl)
theorem dX5_can_33 : decode cX5_can 33 = .ok (.iconst 1, 1) := dk_4 (dk_at dksX5_can_1 11 rfl rfl)
theorem dX5_can_34 : decode cX5_can 34 = .ok (.goto 4, 3) := dk_167 0 4 (dk_at dksX5_can_1 12 rfl rfl)
theorem dX5_can_37 : decode cX5_can 37 = .ok (.iconst 0, 1) := dk_3 (dk_at dksX5_can_1 15 rfl rfl)
theorem dX5_can_38 : decode cX5_can 38 = .ok (.ireturn, 1) := dk_172 (dk_at dksX5_can_1 16 rfl rfl)
abbrev cX5_canStop : ByteArray := prog_21_method_39_code
def yX5_canStop : MethodName := ⟨RX5, "canStop", "(I)Z"⟩
def dkwX5_canStop_1 : List UInt8 := [180, 0, 33, 3, 27, 96, 46, 42, 180, 0, 17, 16, 35, 46, 100, 163, 0, 7, 4, 167, 0, 4, 3, 172]
abbrev dktX5_canStop_1 : List UInt8 := dkwX5_canStop_1 ++ []
def dkwX5_canStop_0 : List UInt8 := [42, 180, 0, 33, 16, 8, 27, 96, 46, 42, 180, 0, 33, 16, 8, 27, 96, 46, 4, 100, 104, 5, 108, 42]
abbrev dktX5_canStop_0 : List UInt8 := dkwX5_canStop_0 ++ dktX5_canStop_1
theorem dksX5_canStop_0 : cX5_canStop.data.toList.drop 0 = dktX5_canStop_0 := by decide +kernel
theorem dksX5_canStop_1 : cX5_canStop.data.toList.drop 24 = dktX5_canStop_1 := dk_seg dksX5_canStop_0 24 rfl rfl
theorem dX5_canStop_0 : decode cX5_canStop 0 = .ok (.aload_n 0, 1) := dk_42 (dk_at dksX5_canStop_0 0 rfl rfl)
theorem dX5_canStop_1 : decode cX5_canStop 1 = .ok (.getfield 33, 3) := dk_180 0 33 (dk_at dksX5_canStop_0 1 rfl rfl)
theorem dX5_canStop_4 : decode cX5_canStop 4 = .ok (.bipush 8, 2) := dk_16 8 (dk_at dksX5_canStop_0 4 rfl rfl)
theorem dX5_canStop_6 : decode cX5_canStop 6 = .ok (.iload_n 1, 1) := dk_27 (dk_at dksX5_canStop_0 6 rfl rfl)
theorem dX5_canStop_7 : decode cX5_canStop 7 = .ok (.iadd, 1) := dk_96 (dk_at dksX5_canStop_0 7 rfl rfl)
theorem dX5_canStop_8 : decode cX5_canStop 8 = .ok (.iaload, 1) := dk_46 (dk_at dksX5_canStop_0 8 rfl rfl)
theorem dX5_canStop_9 : decode cX5_canStop 9 = .ok (.aload_n 0, 1) := dk_42 (dk_at dksX5_canStop_0 9 rfl rfl)
theorem dX5_canStop_10 : decode cX5_canStop 10 = .ok (.getfield 33, 3) := dk_180 0 33 (dk_at dksX5_canStop_0 10 rfl rfl)
theorem dX5_canStop_13 : decode cX5_canStop 13 = .ok (.bipush 8, 2) := dk_16 8 (dk_at dksX5_canStop_0 13 rfl rfl)
theorem dX5_canStop_15 : decode cX5_canStop 15 = .ok (.iload_n 1, 1) := dk_27 (dk_at dksX5_canStop_0 15 rfl rfl)
theorem dX5_canStop_16 : decode cX5_canStop 16 = .ok (.iadd, 1) := dk_96 (dk_at dksX5_canStop_0 16 rfl rfl)
theorem dX5_canStop_17 : decode cX5_canStop 17 = .ok (.iaload, 1) := dk_46 (dk_at dksX5_canStop_0 17 rfl rfl)
theorem dX5_canStop_18 : decode cX5_canStop 18 = .ok (.iconst 1, 1) := dk_4 (dk_at dksX5_canStop_0 18 rfl rfl)
theorem dX5_canStop_19 : decode cX5_canStop 19 = .ok (.isub, 1) := dk_100 (dk_at dksX5_canStop_0 19 rfl rfl)
theorem dX5_canStop_20 : decode cX5_canStop 20 = .ok (.imul, 1) := dk_104 (dk_at dksX5_canStop_0 20 rfl rfl)
theorem dX5_canStop_21 : decode cX5_canStop 21 = .ok (.iconst 2, 1) := dk_5 (dk_at dksX5_canStop_0 21 rfl rfl)
theorem dX5_canStop_22 : decode cX5_canStop 22 = .ok (.idiv, 1) := dk_108 (dk_at dksX5_canStop_0 22 rfl rfl)
theorem dX5_canStop_23 : decode cX5_canStop 23 = .ok (.aload_n 0, 1) := dk_42 (dk_at dksX5_canStop_0 23 rfl rfl)
theorem dX5_canStop_24 : decode cX5_canStop 24 = .ok (.getfield 33, 3) := dk_180 0 33 (dk_at dksX5_canStop_1 0 rfl rfl)
theorem dX5_canStop_27 : decode cX5_canStop 27 = .ok (.iconst 0, 1) := dk_3 (dk_at dksX5_canStop_1 3 rfl rfl)
theorem dX5_canStop_28 : decode cX5_canStop 28 = .ok (.iload_n 1, 1) := dk_27 (dk_at dksX5_canStop_1 4 rfl rfl)
theorem dX5_canStop_29 : decode cX5_canStop 29 = .ok (.iadd, 1) := dk_96 (dk_at dksX5_canStop_1 5 rfl rfl)
theorem dX5_canStop_30 : decode cX5_canStop 30 = .ok (.iaload, 1) := dk_46 (dk_at dksX5_canStop_1 6 rfl rfl)
theorem dX5_canStop_31 : decode cX5_canStop 31 = .ok (.aload_n 0, 1) := dk_42 (dk_at dksX5_canStop_1 7 rfl rfl)
theorem dX5_canStop_32 : decode cX5_canStop 32 = .ok (.getfield 17, 3) := dk_180 0 17 (dk_at dksX5_canStop_1 8 rfl rfl)
theorem dX5_canStop_35 : decode cX5_canStop 35 = .ok (.bipush 35, 2) := dk_16 35 (dk_at dksX5_canStop_1 11 rfl rfl)
theorem dX5_canStop_37 : decode cX5_canStop 37 = .ok (.iaload, 1) := dk_46 (dk_at dksX5_canStop_1 13 rfl rfl)
theorem dX5_canStop_38 : decode cX5_canStop 38 = .ok (.isub, 1) := dk_100 (dk_at dksX5_canStop_1 14 rfl rfl)
theorem dX5_canStop_39 : decode cX5_canStop 39 = .ok (.if_icmp .gt 7, 3) := dk_163 0 7 (dk_at dksX5_canStop_1 15 rfl rfl)
theorem dX5_canStop_42 : decode cX5_canStop 42 = .ok (.iconst 1, 1) := dk_4 (dk_at dksX5_canStop_1 18 rfl rfl)
theorem dX5_canStop_43 : decode cX5_canStop 43 = .ok (.goto 4, 3) := dk_167 0 4 (dk_at dksX5_canStop_1 19 rfl rfl)
theorem dX5_canStop_46 : decode cX5_canStop 46 = .ok (.iconst 0, 1) := dk_3 (dk_at dksX5_canStop_1 22 rfl rfl)
theorem dX5_canStop_47 : decode cX5_canStop 47 = .ok (.ireturn, 1) := dk_172 (dk_at dksX5_canStop_1 23 rfl rfl)
abbrev cX5_run : ByteArray := prog_21_method_50_code
def yX5_run : MethodName := ⟨RX5, "run", "(II)I"⟩
def dkwX5_run_4 : List UInt8 := [42, 180, 0, 33, 16, 39, 46, 172, 42, 182, 1, 22, 172, 42, 180, 0, 33, 16, 35, 46, 172]
abbrev dktX5_run_4 : List UInt8 := dkwX5_run_4 ++ []
def dkwX5_run_3 : List UInt8 := [42, 180, 0, 33, 16, 37, 46, 172, 42, 180, 0, 33, 16, 36, 46, 172, 42, 180, 0, 33, 16, 38, 46, 172]
abbrev dktX5_run_3 : List UInt8 := dkwX5_run_3 ++ dktX5_run_4
def dkwX5_run_2 : List UInt8 := [170, 0, 0, 0, 0, 0, 0, 73, 0, 0, 0, 0, 0, 0, 0, 4, 0, 0, 0, 36, 0, 0, 0, 44, 0, 0, 0, 52, 0, 0, 0, 60, 0, 0, 0, 68]
abbrev dktX5_run_2 : List UInt8 := dkwX5_run_2 ++ dktX5_run_3
def dkwX5_run_1 : List UInt8 := [42, 27, 16, 99, 182, 1, 19, 28]
abbrev dktX5_run_1 : List UInt8 := dkwX5_run_1 ++ dktX5_run_2
def dkwX5_run_0 : List UInt8 := [42, 3, 181, 0, 1, 28, 133, 9, 20, 0, 172, 184, 0, 152, 154, 0, 10, 42, 16, 254, 182, 0, 89, 172]
abbrev dktX5_run_0 : List UInt8 := dkwX5_run_0 ++ dktX5_run_1
theorem dksX5_run_0 : cX5_run.data.toList.drop 0 = dktX5_run_0 := by decide +kernel
theorem dksX5_run_1 : cX5_run.data.toList.drop 24 = dktX5_run_1 := dk_seg dksX5_run_0 24 rfl rfl
theorem dksX5_run_2 : cX5_run.data.toList.drop 32 = dktX5_run_2 := dk_seg dksX5_run_1 8 rfl rfl
theorem dksX5_run_3 : cX5_run.data.toList.drop 68 = dktX5_run_3 := dk_seg dksX5_run_2 36 rfl rfl
theorem dksX5_run_4 : cX5_run.data.toList.drop 92 = dktX5_run_4 := dk_seg dksX5_run_3 24 rfl rfl
theorem dX5_run_0 : decode cX5_run 0 = .ok (.aload_n 0, 1) := dk_42 (dk_at dksX5_run_0 0 rfl rfl)
theorem dX5_run_1 : decode cX5_run 1 = .ok (.iconst 0, 1) := dk_3 (dk_at dksX5_run_0 1 rfl rfl)
theorem dX5_run_2 : decode cX5_run 2 = .ok (.putfield 1, 3) := dk_181 0 1 (dk_at dksX5_run_0 2 rfl rfl)
theorem dX5_run_5 : decode cX5_run 5 = .ok (.iload_n 2, 1) := dk_28 (dk_at dksX5_run_0 5 rfl rfl)
theorem dX5_run_6 : decode cX5_run 6 = .ok (.i2l, 1) := dk_133 (dk_at dksX5_run_0 6 rfl rfl)
theorem dX5_run_7 : decode cX5_run 7 = .ok (.lconst 0, 1) := dk_9 (dk_at dksX5_run_0 7 rfl rfl)
theorem dX5_run_8 : decode cX5_run 8 = .ok (.ldc2_w 172, 3) := dk_20 0 172 (dk_at dksX5_run_0 8 rfl rfl)
theorem dX5_run_11 : decode cX5_run 11 = .ok (.invokestatic 152, 3) := dk_184 0 152 (dk_at dksX5_run_0 11 rfl rfl)
theorem dX5_run_14 : decode cX5_run 14 = .ok (.ifCond .ne 10, 3) := dk_154 0 10 (dk_at dksX5_run_0 14 rfl rfl)
theorem dX5_run_17 : decode cX5_run 17 = .ok (.aload_n 0, 1) := dk_42 (dk_at dksX5_run_0 17 rfl rfl)
theorem dX5_run_18 : decode cX5_run 18 = .ok (.bipush (-2), 2) := dk_16 254 (dk_at dksX5_run_0 18 rfl rfl)
theorem dX5_run_20 : decode cX5_run 20 = .ok (.invokevirtual 89, 3) := dk_182 0 89 (dk_at dksX5_run_0 20 rfl rfl)
theorem dX5_run_23 : decode cX5_run 23 = .ok (.ireturn, 1) := dk_172 (dk_at dksX5_run_0 23 rfl rfl)
theorem dX5_run_24 : decode cX5_run 24 = .ok (.aload_n 0, 1) := dk_42 (dk_at dksX5_run_1 0 rfl rfl)
theorem dX5_run_25 : decode cX5_run 25 = .ok (.iload_n 1, 1) := dk_27 (dk_at dksX5_run_1 1 rfl rfl)
theorem dX5_run_26 : decode cX5_run 26 = .ok (.bipush 99, 2) := dk_16 99 (dk_at dksX5_run_1 2 rfl rfl)
theorem dX5_run_28 : decode cX5_run 28 = .ok (.invokevirtual 275, 3) := dk_182 1 19 (dk_at dksX5_run_1 4 rfl rfl)
theorem dX5_run_31 : decode cX5_run 31 = .ok (.iload_n 2, 1) := dk_28 (dk_at dksX5_run_1 7 rfl rfl)
theorem dX5_run_32 : decode cX5_run 32 = .ok (.tableswitch 73 0 4 #[36, 44, 52, 60, 68], 36) := by decide +kernel
theorem dX5_run_68 : decode cX5_run 68 = .ok (.aload_n 0, 1) := dk_42 (dk_at dksX5_run_3 0 rfl rfl)
theorem dX5_run_69 : decode cX5_run 69 = .ok (.getfield 33, 3) := dk_180 0 33 (dk_at dksX5_run_3 1 rfl rfl)
theorem dX5_run_72 : decode cX5_run 72 = .ok (.bipush 37, 2) := dk_16 37 (dk_at dksX5_run_3 4 rfl rfl)
theorem dX5_run_74 : decode cX5_run 74 = .ok (.iaload, 1) := dk_46 (dk_at dksX5_run_3 6 rfl rfl)
theorem dX5_run_75 : decode cX5_run 75 = .ok (.ireturn, 1) := dk_172 (dk_at dksX5_run_3 7 rfl rfl)
theorem dX5_run_76 : decode cX5_run 76 = .ok (.aload_n 0, 1) := dk_42 (dk_at dksX5_run_3 8 rfl rfl)
theorem dX5_run_77 : decode cX5_run 77 = .ok (.getfield 33, 3) := dk_180 0 33 (dk_at dksX5_run_3 9 rfl rfl)
theorem dX5_run_80 : decode cX5_run 80 = .ok (.bipush 36, 2) := dk_16 36 (dk_at dksX5_run_3 12 rfl rfl)
theorem dX5_run_82 : decode cX5_run 82 = .ok (.iaload, 1) := dk_46 (dk_at dksX5_run_3 14 rfl rfl)
theorem dX5_run_83 : decode cX5_run 83 = .ok (.ireturn, 1) := dk_172 (dk_at dksX5_run_3 15 rfl rfl)
theorem dX5_run_84 : decode cX5_run 84 = .ok (.aload_n 0, 1) := dk_42 (dk_at dksX5_run_3 16 rfl rfl)
theorem dX5_run_85 : decode cX5_run 85 = .ok (.getfield 33, 3) := dk_180 0 33 (dk_at dksX5_run_3 17 rfl rfl)
theorem dX5_run_88 : decode cX5_run 88 = .ok (.bipush 38, 2) := dk_16 38 (dk_at dksX5_run_3 20 rfl rfl)
theorem dX5_run_90 : decode cX5_run 90 = .ok (.iaload, 1) := dk_46 (dk_at dksX5_run_3 22 rfl rfl)
theorem dX5_run_91 : decode cX5_run 91 = .ok (.ireturn, 1) := dk_172 (dk_at dksX5_run_3 23 rfl rfl)
theorem dX5_run_92 : decode cX5_run 92 = .ok (.aload_n 0, 1) := dk_42 (dk_at dksX5_run_4 0 rfl rfl)
theorem dX5_run_93 : decode cX5_run 93 = .ok (.getfield 33, 3) := dk_180 0 33 (dk_at dksX5_run_4 1 rfl rfl)
theorem dX5_run_96 : decode cX5_run 96 = .ok (.bipush 39, 2) := dk_16 39 (dk_at dksX5_run_4 4 rfl rfl)
theorem dX5_run_98 : decode cX5_run 98 = .ok (.iaload, 1) := dk_46 (dk_at dksX5_run_4 6 rfl rfl)
theorem dX5_run_99 : decode cX5_run 99 = .ok (.ireturn, 1) := dk_172 (dk_at dksX5_run_4 7 rfl rfl)
theorem dX5_run_100 : decode cX5_run 100 = .ok (.aload_n 0, 1) := dk_42 (dk_at dksX5_run_4 8 rfl rfl)
theorem dX5_run_101 : decode cX5_run 101 = .ok (.invokevirtual 278, 3) := dk_182 1 22 (dk_at dksX5_run_4 9 rfl rfl)
theorem dX5_run_104 : decode cX5_run 104 = .ok (.ireturn, 1) := dk_172 (dk_at dksX5_run_4 12 rfl rfl)
theorem dX5_run_105 : decode cX5_run 105 = .ok (.aload_n 0, 1) := dk_42 (dk_at dksX5_run_4 13 rfl rfl)
theorem dX5_run_106 : decode cX5_run 106 = .ok (.getfield 33, 3) := dk_180 0 33 (dk_at dksX5_run_4 14 rfl rfl)
theorem dX5_run_109 : decode cX5_run 109 = .ok (.bipush 35, 2) := dk_16 35 (dk_at dksX5_run_4 17 rfl rfl)
theorem dX5_run_111 : decode cX5_run 111 = .ok (.iaload, 1) := dk_46 (dk_at dksX5_run_4 19 rfl rfl)
theorem dX5_run_112 : decode cX5_run 112 = .ok (.ireturn, 1) := dk_172 (dk_at dksX5_run_4 20 rfl rfl)
abbrev cX5_runs : ByteArray := prog_21_method_48_code
def yX5_runs : MethodName := ⟨RX5, "runs", "(II)V"⟩
def dkwX5_runs_1 : List UInt8 := [162, 0, 16, 42, 4, 182, 1, 12, 87, 42, 182, 1, 16, 167, 255, 225, 177]
abbrev dktX5_runs_1 : List UInt8 := dkwX5_runs_1 ++ []
def dkwX5_runs_0 : List UInt8 := [42, 27, 182, 0, 240, 42, 180, 0, 33, 16, 37, 46, 154, 0, 27, 42, 180, 0, 33, 16, 36, 46, 28]
abbrev dktX5_runs_0 : List UInt8 := dkwX5_runs_0 ++ dktX5_runs_1
theorem dksX5_runs_0 : cX5_runs.data.toList.drop 0 = dktX5_runs_0 := by decide +kernel
theorem dksX5_runs_1 : cX5_runs.data.toList.drop 23 = dktX5_runs_1 := dk_seg dksX5_runs_0 23 rfl rfl
theorem dX5_runs_0 : decode cX5_runs 0 = .ok (.aload_n 0, 1) := dk_42 (dk_at dksX5_runs_0 0 rfl rfl)
theorem dX5_runs_1 : decode cX5_runs 1 = .ok (.iload_n 1, 1) := dk_27 (dk_at dksX5_runs_0 1 rfl rfl)
theorem dX5_runs_2 : decode cX5_runs 2 = .ok (.invokevirtual 240, 3) := dk_182 0 240 (dk_at dksX5_runs_0 2 rfl rfl)
theorem dX5_runs_5 : decode cX5_runs 5 = .ok (.aload_n 0, 1) := dk_42 (dk_at dksX5_runs_0 5 rfl rfl)
theorem dX5_runs_6 : decode cX5_runs 6 = .ok (.getfield 33, 3) := dk_180 0 33 (dk_at dksX5_runs_0 6 rfl rfl)
theorem dX5_runs_9 : decode cX5_runs 9 = .ok (.bipush 37, 2) := dk_16 37 (dk_at dksX5_runs_0 9 rfl rfl)
theorem dX5_runs_11 : decode cX5_runs 11 = .ok (.iaload, 1) := dk_46 (dk_at dksX5_runs_0 11 rfl rfl)
theorem dX5_runs_12 : decode cX5_runs 12 = .ok (.ifCond .ne 27, 3) := dk_154 0 27 (dk_at dksX5_runs_0 12 rfl rfl)
theorem dX5_runs_15 : decode cX5_runs 15 = .ok (.aload_n 0, 1) := dk_42 (dk_at dksX5_runs_0 15 rfl rfl)
theorem dX5_runs_16 : decode cX5_runs 16 = .ok (.getfield 33, 3) := dk_180 0 33 (dk_at dksX5_runs_0 16 rfl rfl)
theorem dX5_runs_19 : decode cX5_runs 19 = .ok (.bipush 36, 2) := dk_16 36 (dk_at dksX5_runs_0 19 rfl rfl)
theorem dX5_runs_21 : decode cX5_runs 21 = .ok (.iaload, 1) := dk_46 (dk_at dksX5_runs_0 21 rfl rfl)
theorem dX5_runs_22 : decode cX5_runs 22 = .ok (.iload_n 2, 1) := dk_28 (dk_at dksX5_runs_0 22 rfl rfl)
theorem dX5_runs_23 : decode cX5_runs 23 = .ok (.if_icmp .ge 16, 3) := dk_162 0 16 (dk_at dksX5_runs_1 0 rfl rfl)
theorem dX5_runs_26 : decode cX5_runs 26 = .ok (.aload_n 0, 1) := dk_42 (dk_at dksX5_runs_1 3 rfl rfl)
theorem dX5_runs_27 : decode cX5_runs 27 = .ok (.iconst 1, 1) := dk_4 (dk_at dksX5_runs_1 4 rfl rfl)
theorem dX5_runs_28 : decode cX5_runs 28 = .ok (.invokevirtual 268, 3) := dk_182 1 12 (dk_at dksX5_runs_1 5 rfl rfl)
theorem dX5_runs_31 : decode cX5_runs 31 = .ok (.pop, 1) := dk_87 (dk_at dksX5_runs_1 8 rfl rfl)
theorem dX5_runs_32 : decode cX5_runs 32 = .ok (.aload_n 0, 1) := dk_42 (dk_at dksX5_runs_1 9 rfl rfl)
theorem dX5_runs_33 : decode cX5_runs 33 = .ok (.invokevirtual 272, 3) := dk_182 1 16 (dk_at dksX5_runs_1 10 rfl rfl)
theorem dX5_runs_36 : decode cX5_runs 36 = .ok (.goto (-31), 3) := dk_167 255 225 (dk_at dksX5_runs_1 13 rfl rfl)
theorem dX5_runs_39 : decode cX5_runs 39 = .ok (.return_, 1) := dk_177 (dk_at dksX5_runs_1 16 rfl rfl)
abbrev cX5_decides : ByteArray := prog_21_method_42_code
def yX5_decides : MethodName := ⟨RX5, "decides", "(Z)I"⟩
def dkwX5_decides_7 : List UInt8 := [5, 167, 0, 4, 4, 79, 42, 180, 0, 33, 16, 41, 92, 46, 4, 96, 79, 167, 255, 73, 2, 172]
abbrev dktX5_decides_7 : List UInt8 := dkwX5_decides_7 ++ []
def dkwX5_decides_6 : List UInt8 := [180, 0, 33, 16, 16, 28, 96, 42, 180, 0, 33, 16, 40, 46, 16, 16, 124, 16, 100, 112, 29, 162, 0, 7]
abbrev dktX5_decides_6 : List UInt8 := dkwX5_decides_6 ++ dktX5_decides_7
def dkwX5_decides_5 : List UInt8 := [28, 172, 42, 180, 0, 33, 16, 40, 18, 252, 42, 180, 0, 33, 16, 40, 46, 104, 17, 48, 57, 96, 79, 42]
abbrev dktX5_decides_5 : List UInt8 := dkwX5_decides_5 ++ dktX5_decides_6
def dkwX5_decides_4 : List UInt8 := [28, 96, 29, 154, 0, 7, 4, 167, 0, 4, 5, 79, 167, 0, 66, 27, 154, 0, 10, 42, 29, 181, 0, 249]
abbrev dktX5_decides_4 : List UInt8 := dkwX5_decides_4 ++ dktX5_decides_5
def dkwX5_decides_3 : List UInt8 := [182, 0, 243, 167, 0, 4, 3, 62, 29, 153, 0, 9, 29, 16, 100, 160, 0, 24, 42, 180, 0, 33, 16, 16]
abbrev dktX5_decides_3 : List UInt8 := dkwX5_decides_3 ++ dktX5_decides_4
def dkwX5_decides_2 : List UInt8 := [180, 0, 17, 16, 38, 46, 133, 184, 0, 152, 153, 0, 115, 42, 28, 182, 0, 246, 153, 0, 11, 42, 28]
abbrev dktX5_decides_2 : List UInt8 := dkwX5_decides_2 ++ dktX5_decides_3
def dkwX5_decides_1 : List UInt8 := [42, 180, 0, 33, 16, 16, 28, 96, 46, 154, 0, 139, 42, 180, 0, 33, 3, 28, 96, 46, 133, 10, 42]
abbrev dktX5_decides_1 : List UInt8 := dkwX5_decides_1 ++ dktX5_decides_2
def dkwX5_decides_0 : List UInt8 := [42, 180, 0, 33, 16, 41, 46, 42, 180, 0, 17, 4, 46, 162, 0, 173, 42, 180, 0, 33, 16, 41, 46, 61]
abbrev dktX5_decides_0 : List UInt8 := dkwX5_decides_0 ++ dktX5_decides_1
theorem dksX5_decides_0 : cX5_decides.data.toList.drop 0 = dktX5_decides_0 := by decide +kernel
theorem dksX5_decides_1 : cX5_decides.data.toList.drop 24 = dktX5_decides_1 := dk_seg dksX5_decides_0 24 rfl rfl
theorem dksX5_decides_2 : cX5_decides.data.toList.drop 47 = dktX5_decides_2 := dk_seg dksX5_decides_1 23 rfl rfl
theorem dksX5_decides_3 : cX5_decides.data.toList.drop 70 = dktX5_decides_3 := dk_seg dksX5_decides_2 23 rfl rfl
theorem dksX5_decides_4 : cX5_decides.data.toList.drop 94 = dktX5_decides_4 := dk_seg dksX5_decides_3 24 rfl rfl
theorem dksX5_decides_5 : cX5_decides.data.toList.drop 118 = dktX5_decides_5 := dk_seg dksX5_decides_4 24 rfl rfl
theorem dksX5_decides_6 : cX5_decides.data.toList.drop 142 = dktX5_decides_6 := dk_seg dksX5_decides_5 24 rfl rfl
theorem dksX5_decides_7 : cX5_decides.data.toList.drop 166 = dktX5_decides_7 := dk_seg dksX5_decides_6 24 rfl rfl
theorem dX5_decides_0 : decode cX5_decides 0 = .ok (.aload_n 0, 1) := dk_42 (dk_at dksX5_decides_0 0 rfl rfl)
theorem dX5_decides_1 : decode cX5_decides 1 = .ok (.getfield 33, 3) := dk_180 0 33 (dk_at dksX5_decides_0 1 rfl rfl)
theorem dX5_decides_4 : decode cX5_decides 4 = .ok (.bipush 41, 2) := dk_16 41 (dk_at dksX5_decides_0 4 rfl rfl)
theorem dX5_decides_6 : decode cX5_decides 6 = .ok (.iaload, 1) := dk_46 (dk_at dksX5_decides_0 6 rfl rfl)
theorem dX5_decides_7 : decode cX5_decides 7 = .ok (.aload_n 0, 1) := dk_42 (dk_at dksX5_decides_0 7 rfl rfl)
theorem dX5_decides_8 : decode cX5_decides 8 = .ok (.getfield 17, 3) := dk_180 0 17 (dk_at dksX5_decides_0 8 rfl rfl)
theorem dX5_decides_11 : decode cX5_decides 11 = .ok (.iconst 1, 1) := dk_4 (dk_at dksX5_decides_0 11 rfl rfl)
theorem dX5_decides_12 : decode cX5_decides 12 = .ok (.iaload, 1) := dk_46 (dk_at dksX5_decides_0 12 rfl rfl)
theorem dX5_decides_13 : decode cX5_decides 13 = .ok (.if_icmp .ge 173, 3) := dk_162 0 173 (dk_at dksX5_decides_0 13 rfl rfl)
theorem dX5_decides_16 : decode cX5_decides 16 = .ok (.aload_n 0, 1) := dk_42 (dk_at dksX5_decides_0 16 rfl rfl)
theorem dX5_decides_17 : decode cX5_decides 17 = .ok (.getfield 33, 3) := dk_180 0 33 (dk_at dksX5_decides_0 17 rfl rfl)
theorem dX5_decides_20 : decode cX5_decides 20 = .ok (.bipush 41, 2) := dk_16 41 (dk_at dksX5_decides_0 20 rfl rfl)
theorem dX5_decides_22 : decode cX5_decides 22 = .ok (.iaload, 1) := dk_46 (dk_at dksX5_decides_0 22 rfl rfl)
theorem dX5_decides_23 : decode cX5_decides 23 = .ok (.istore_n 2, 1) := dk_61 (dk_at dksX5_decides_0 23 rfl rfl)
theorem dX5_decides_24 : decode cX5_decides 24 = .ok (.aload_n 0, 1) := dk_42 (dk_at dksX5_decides_1 0 rfl rfl)
theorem dX5_decides_25 : decode cX5_decides 25 = .ok (.getfield 33, 3) := dk_180 0 33 (dk_at dksX5_decides_1 1 rfl rfl)
theorem dX5_decides_28 : decode cX5_decides 28 = .ok (.bipush 16, 2) := dk_16 16 (dk_at dksX5_decides_1 4 rfl rfl)
theorem dX5_decides_30 : decode cX5_decides 30 = .ok (.iload_n 2, 1) := dk_28 (dk_at dksX5_decides_1 6 rfl rfl)
theorem dX5_decides_31 : decode cX5_decides 31 = .ok (.iadd, 1) := dk_96 (dk_at dksX5_decides_1 7 rfl rfl)
theorem dX5_decides_32 : decode cX5_decides 32 = .ok (.iaload, 1) := dk_46 (dk_at dksX5_decides_1 8 rfl rfl)
theorem dX5_decides_33 : decode cX5_decides 33 = .ok (.ifCond .ne 139, 3) := dk_154 0 139 (dk_at dksX5_decides_1 9 rfl rfl)
theorem dX5_decides_36 : decode cX5_decides 36 = .ok (.aload_n 0, 1) := dk_42 (dk_at dksX5_decides_1 12 rfl rfl)
theorem dX5_decides_37 : decode cX5_decides 37 = .ok (.getfield 33, 3) := dk_180 0 33 (dk_at dksX5_decides_1 13 rfl rfl)
theorem dX5_decides_40 : decode cX5_decides 40 = .ok (.iconst 0, 1) := dk_3 (dk_at dksX5_decides_1 16 rfl rfl)
theorem dX5_decides_41 : decode cX5_decides 41 = .ok (.iload_n 2, 1) := dk_28 (dk_at dksX5_decides_1 17 rfl rfl)
theorem dX5_decides_42 : decode cX5_decides 42 = .ok (.iadd, 1) := dk_96 (dk_at dksX5_decides_1 18 rfl rfl)
theorem dX5_decides_43 : decode cX5_decides 43 = .ok (.iaload, 1) := dk_46 (dk_at dksX5_decides_1 19 rfl rfl)
theorem dX5_decides_44 : decode cX5_decides 44 = .ok (.i2l, 1) := dk_133 (dk_at dksX5_decides_1 20 rfl rfl)
theorem dX5_decides_45 : decode cX5_decides 45 = .ok (.lconst 1, 1) := dk_10 (dk_at dksX5_decides_1 21 rfl rfl)
theorem dX5_decides_46 : decode cX5_decides 46 = .ok (.aload_n 0, 1) := dk_42 (dk_at dksX5_decides_1 22 rfl rfl)
theorem dX5_decides_47 : decode cX5_decides 47 = .ok (.getfield 17, 3) := dk_180 0 17 (dk_at dksX5_decides_2 0 rfl rfl)
theorem dX5_decides_50 : decode cX5_decides 50 = .ok (.bipush 38, 2) := dk_16 38 (dk_at dksX5_decides_2 3 rfl rfl)
theorem dX5_decides_52 : decode cX5_decides 52 = .ok (.iaload, 1) := dk_46 (dk_at dksX5_decides_2 5 rfl rfl)
theorem dX5_decides_53 : decode cX5_decides 53 = .ok (.i2l, 1) := dk_133 (dk_at dksX5_decides_2 6 rfl rfl)
theorem dX5_decides_54 : decode cX5_decides 54 = .ok (.invokestatic 152, 3) := dk_184 0 152 (dk_at dksX5_decides_2 7 rfl rfl)
theorem dX5_decides_57 : decode cX5_decides 57 = .ok (.ifCond .eq 115, 3) := dk_153 0 115 (dk_at dksX5_decides_2 10 rfl rfl)
theorem dX5_decides_60 : decode cX5_decides 60 = .ok (.aload_n 0, 1) := dk_42 (dk_at dksX5_decides_2 13 rfl rfl)
theorem dX5_decides_61 : decode cX5_decides 61 = .ok (.iload_n 2, 1) := dk_28 (dk_at dksX5_decides_2 14 rfl rfl)
theorem dX5_decides_62 : decode cX5_decides 62 = .ok (.invokevirtual 246, 3) := dk_182 0 246 (dk_at dksX5_decides_2 15 rfl rfl)
theorem dX5_decides_65 : decode cX5_decides 65 = .ok (.ifCond .eq 11, 3) := dk_153 0 11 (dk_at dksX5_decides_2 18 rfl rfl)
theorem dX5_decides_68 : decode cX5_decides 68 = .ok (.aload_n 0, 1) := dk_42 (dk_at dksX5_decides_2 21 rfl rfl)
theorem dX5_decides_69 : decode cX5_decides 69 = .ok (.iload_n 2, 1) := dk_28 (dk_at dksX5_decides_2 22 rfl rfl)
theorem dX5_decides_70 : decode cX5_decides 70 = .ok (.invokevirtual 243, 3) := dk_182 0 243 (dk_at dksX5_decides_3 0 rfl rfl)
theorem dX5_decides_73 : decode cX5_decides 73 = .ok (.goto 4, 3) := dk_167 0 4 (dk_at dksX5_decides_3 3 rfl rfl)
theorem dX5_decides_76 : decode cX5_decides 76 = .ok (.iconst 0, 1) := dk_3 (dk_at dksX5_decides_3 6 rfl rfl)
theorem dX5_decides_77 : decode cX5_decides 77 = .ok (.istore_n 3, 1) := dk_62 (dk_at dksX5_decides_3 7 rfl rfl)
theorem dX5_decides_78 : decode cX5_decides 78 = .ok (.iload_n 3, 1) := dk_29 (dk_at dksX5_decides_3 8 rfl rfl)
theorem dX5_decides_79 : decode cX5_decides 79 = .ok (.ifCond .eq 9, 3) := dk_153 0 9 (dk_at dksX5_decides_3 9 rfl rfl)
theorem dX5_decides_82 : decode cX5_decides 82 = .ok (.iload_n 3, 1) := dk_29 (dk_at dksX5_decides_3 12 rfl rfl)
theorem dX5_decides_83 : decode cX5_decides 83 = .ok (.bipush 100, 2) := dk_16 100 (dk_at dksX5_decides_3 13 rfl rfl)
theorem dX5_decides_85 : decode cX5_decides 85 = .ok (.if_icmp .ne 24, 3) := dk_160 0 24 (dk_at dksX5_decides_3 15 rfl rfl)
theorem dX5_decides_88 : decode cX5_decides 88 = .ok (.aload_n 0, 1) := dk_42 (dk_at dksX5_decides_3 18 rfl rfl)
theorem dX5_decides_89 : decode cX5_decides 89 = .ok (.getfield 33, 3) := dk_180 0 33 (dk_at dksX5_decides_3 19 rfl rfl)
theorem dX5_decides_92 : decode cX5_decides 92 = .ok (.bipush 16, 2) := dk_16 16 (dk_at dksX5_decides_3 22 rfl rfl)
theorem dX5_decides_94 : decode cX5_decides 94 = .ok (.iload_n 2, 1) := dk_28 (dk_at dksX5_decides_4 0 rfl rfl)
theorem dX5_decides_95 : decode cX5_decides 95 = .ok (.iadd, 1) := dk_96 (dk_at dksX5_decides_4 1 rfl rfl)
theorem dX5_decides_96 : decode cX5_decides 96 = .ok (.iload_n 3, 1) := dk_29 (dk_at dksX5_decides_4 2 rfl rfl)
theorem dX5_decides_97 : decode cX5_decides 97 = .ok (.ifCond .ne 7, 3) := dk_154 0 7 (dk_at dksX5_decides_4 3 rfl rfl)
theorem dX5_decides_100 : decode cX5_decides 100 = .ok (.iconst 1, 1) := dk_4 (dk_at dksX5_decides_4 6 rfl rfl)
theorem dX5_decides_101 : decode cX5_decides 101 = .ok (.goto 4, 3) := dk_167 0 4 (dk_at dksX5_decides_4 7 rfl rfl)
theorem dX5_decides_104 : decode cX5_decides 104 = .ok (.iconst 2, 1) := dk_5 (dk_at dksX5_decides_4 10 rfl rfl)
theorem dX5_decides_105 : decode cX5_decides 105 = .ok (.iastore, 1) := dk_79 (dk_at dksX5_decides_4 11 rfl rfl)
theorem dX5_decides_106 : decode cX5_decides 106 = .ok (.goto 66, 3) := dk_167 0 66 (dk_at dksX5_decides_4 12 rfl rfl)
theorem dX5_decides_109 : decode cX5_decides 109 = .ok (.iload_n 1, 1) := dk_27 (dk_at dksX5_decides_4 15 rfl rfl)
theorem dX5_decides_110 : decode cX5_decides 110 = .ok (.ifCond .ne 10, 3) := dk_154 0 10 (dk_at dksX5_decides_4 16 rfl rfl)
theorem dX5_decides_113 : decode cX5_decides 113 = .ok (.aload_n 0, 1) := dk_42 (dk_at dksX5_decides_4 19 rfl rfl)
theorem dX5_decides_114 : decode cX5_decides 114 = .ok (.iload_n 3, 1) := dk_29 (dk_at dksX5_decides_4 20 rfl rfl)
theorem dX5_decides_115 : decode cX5_decides 115 = .ok (.putfield 249, 3) := dk_181 0 249 (dk_at dksX5_decides_4 21 rfl rfl)
theorem dX5_decides_118 : decode cX5_decides 118 = .ok (.iload_n 2, 1) := dk_28 (dk_at dksX5_decides_5 0 rfl rfl)
theorem dX5_decides_119 : decode cX5_decides 119 = .ok (.ireturn, 1) := dk_172 (dk_at dksX5_decides_5 1 rfl rfl)
theorem dX5_decides_120 : decode cX5_decides 120 = .ok (.aload_n 0, 1) := dk_42 (dk_at dksX5_decides_5 2 rfl rfl)
theorem dX5_decides_121 : decode cX5_decides 121 = .ok (.getfield 33, 3) := dk_180 0 33 (dk_at dksX5_decides_5 3 rfl rfl)
theorem dX5_decides_124 : decode cX5_decides 124 = .ok (.bipush 40, 2) := dk_16 40 (dk_at dksX5_decides_5 6 rfl rfl)
theorem dX5_decides_126 : decode cX5_decides 126 = .ok (.ldc 252, 2) := dk_18 252 (dk_at dksX5_decides_5 8 rfl rfl)
theorem dX5_decides_128 : decode cX5_decides 128 = .ok (.aload_n 0, 1) := dk_42 (dk_at dksX5_decides_5 10 rfl rfl)
theorem dX5_decides_129 : decode cX5_decides 129 = .ok (.getfield 33, 3) := dk_180 0 33 (dk_at dksX5_decides_5 11 rfl rfl)
theorem dX5_decides_132 : decode cX5_decides 132 = .ok (.bipush 40, 2) := dk_16 40 (dk_at dksX5_decides_5 14 rfl rfl)
theorem dX5_decides_134 : decode cX5_decides 134 = .ok (.iaload, 1) := dk_46 (dk_at dksX5_decides_5 16 rfl rfl)
theorem dX5_decides_135 : decode cX5_decides 135 = .ok (.imul, 1) := dk_104 (dk_at dksX5_decides_5 17 rfl rfl)
theorem dX5_decides_136 : decode cX5_decides 136 = .ok (.sipush 12345, 3) := dk_17 48 57 (dk_at dksX5_decides_5 18 rfl rfl)
theorem dX5_decides_139 : decode cX5_decides 139 = .ok (.iadd, 1) := dk_96 (dk_at dksX5_decides_5 21 rfl rfl)
theorem dX5_decides_140 : decode cX5_decides 140 = .ok (.iastore, 1) := dk_79 (dk_at dksX5_decides_5 22 rfl rfl)
theorem dX5_decides_141 : decode cX5_decides 141 = .ok (.aload_n 0, 1) := dk_42 (dk_at dksX5_decides_5 23 rfl rfl)
theorem dX5_decides_142 : decode cX5_decides 142 = .ok (.getfield 33, 3) := dk_180 0 33 (dk_at dksX5_decides_6 0 rfl rfl)
theorem dX5_decides_145 : decode cX5_decides 145 = .ok (.bipush 16, 2) := dk_16 16 (dk_at dksX5_decides_6 3 rfl rfl)
theorem dX5_decides_147 : decode cX5_decides 147 = .ok (.iload_n 2, 1) := dk_28 (dk_at dksX5_decides_6 5 rfl rfl)
theorem dX5_decides_148 : decode cX5_decides 148 = .ok (.iadd, 1) := dk_96 (dk_at dksX5_decides_6 6 rfl rfl)
theorem dX5_decides_149 : decode cX5_decides 149 = .ok (.aload_n 0, 1) := dk_42 (dk_at dksX5_decides_6 7 rfl rfl)
theorem dX5_decides_150 : decode cX5_decides 150 = .ok (.getfield 33, 3) := dk_180 0 33 (dk_at dksX5_decides_6 8 rfl rfl)
theorem dX5_decides_153 : decode cX5_decides 153 = .ok (.bipush 40, 2) := dk_16 40 (dk_at dksX5_decides_6 11 rfl rfl)
theorem dX5_decides_155 : decode cX5_decides 155 = .ok (.iaload, 1) := dk_46 (dk_at dksX5_decides_6 13 rfl rfl)
theorem dX5_decides_156 : decode cX5_decides 156 = .ok (.bipush 16, 2) := dk_16 16 (dk_at dksX5_decides_6 14 rfl rfl)
theorem dX5_decides_158 : decode cX5_decides 158 = .ok (.iushr, 1) := dk_124 (dk_at dksX5_decides_6 16 rfl rfl)
theorem dX5_decides_159 : decode cX5_decides 159 = .ok (.bipush 100, 2) := dk_16 100 (dk_at dksX5_decides_6 17 rfl rfl)
theorem dX5_decides_161 : decode cX5_decides 161 = .ok (.irem, 1) := dk_112 (dk_at dksX5_decides_6 19 rfl rfl)
theorem dX5_decides_162 : decode cX5_decides 162 = .ok (.iload_n 3, 1) := dk_29 (dk_at dksX5_decides_6 20 rfl rfl)
theorem dX5_decides_163 : decode cX5_decides 163 = .ok (.if_icmp .ge 7, 3) := dk_162 0 7 (dk_at dksX5_decides_6 21 rfl rfl)
theorem dX5_decides_166 : decode cX5_decides 166 = .ok (.iconst 2, 1) := dk_5 (dk_at dksX5_decides_7 0 rfl rfl)
theorem dX5_decides_167 : decode cX5_decides 167 = .ok (.goto 4, 3) := dk_167 0 4 (dk_at dksX5_decides_7 1 rfl rfl)
theorem dX5_decides_170 : decode cX5_decides 170 = .ok (.iconst 1, 1) := dk_4 (dk_at dksX5_decides_7 4 rfl rfl)
theorem dX5_decides_171 : decode cX5_decides 171 = .ok (.iastore, 1) := dk_79 (dk_at dksX5_decides_7 5 rfl rfl)
theorem dX5_decides_172 : decode cX5_decides 172 = .ok (.aload_n 0, 1) := dk_42 (dk_at dksX5_decides_7 6 rfl rfl)
theorem dX5_decides_173 : decode cX5_decides 173 = .ok (.getfield 33, 3) := dk_180 0 33 (dk_at dksX5_decides_7 7 rfl rfl)
theorem dX5_decides_176 : decode cX5_decides 176 = .ok (.bipush 41, 2) := dk_16 41 (dk_at dksX5_decides_7 10 rfl rfl)
theorem dX5_decides_178 : decode cX5_decides 178 = .ok (.dup2, 1) := dk_92 (dk_at dksX5_decides_7 12 rfl rfl)
theorem dX5_decides_179 : decode cX5_decides 179 = .ok (.iaload, 1) := dk_46 (dk_at dksX5_decides_7 13 rfl rfl)
theorem dX5_decides_180 : decode cX5_decides 180 = .ok (.iconst 1, 1) := dk_4 (dk_at dksX5_decides_7 14 rfl rfl)
theorem dX5_decides_181 : decode cX5_decides 181 = .ok (.iadd, 1) := dk_96 (dk_at dksX5_decides_7 15 rfl rfl)
theorem dX5_decides_182 : decode cX5_decides 182 = .ok (.iastore, 1) := dk_79 (dk_at dksX5_decides_7 16 rfl rfl)
theorem dX5_decides_183 : decode cX5_decides 183 = .ok (.goto (-183), 3) := dk_167 255 73 (dk_at dksX5_decides_7 17 rfl rfl)
theorem dX5_decides_186 : decode cX5_decides 186 = .ok (.iconst (-1), 1) := dk_2 (dk_at dksX5_decides_7 20 rfl rfl)
theorem dX5_decides_187 : decode cX5_decides 187 = .ok (.ireturn, 1) := dk_172 (dk_at dksX5_decides_7 21 rfl rfl)
abbrev cX5_ticks : ByteArray := prog_21_method_47_code
def yX5_ticks : MethodName := ⟨RX5, "ticks", "()V"⟩
def dkwX5_ticks_13 : List UInt8 := [160, 0, 11, 42, 180, 0, 33, 16, 37, 6, 79, 42, 180, 0, 33, 16, 41, 3, 79, 177]
abbrev dktX5_ticks_13 : List UInt8 := dkwX5_ticks_13 ++ []
def dkwX5_ticks_12 : List UInt8 := [4, 96, 79, 42, 180, 0, 33, 16, 37, 46, 154, 0, 23, 42, 180, 0, 33, 16, 36, 46, 16, 99]
abbrev dktX5_ticks_12 : List UInt8 := dkwX5_ticks_12 ++ dktX5_ticks_13
def dkwX5_ticks_11 : List UInt8 := [180, 0, 33, 16, 32, 46, 154, 0, 7, 4, 167, 0, 4, 3, 96, 79, 42, 180, 0, 33, 16, 36, 92, 46]
abbrev dktX5_ticks_11 : List UInt8 := dkwX5_ticks_11 ++ dktX5_ticks_12
def dkwX5_ticks_10 : List UInt8 := [167, 0, 4, 3, 79, 42, 180, 0, 33, 16, 35, 92, 46, 42, 180, 0, 33, 16, 33, 46, 154, 0, 17, 42]
abbrev dktX5_ticks_10 : List UInt8 := dkwX5_ticks_10 ++ dktX5_ticks_11
def dkwX5_ticks_9 : List UInt8 := [180, 0, 33, 16, 37, 42, 180, 0, 33, 16, 32, 46, 42, 180, 0, 17, 3, 46, 160, 0, 7, 4]
abbrev dktX5_ticks_9 : List UInt8 := dkwX5_ticks_9 ++ dktX5_ticks_10
def dkwX5_ticks_8 : List UInt8 := [161, 0, 50, 42, 180, 0, 33, 16, 33, 3, 79, 42, 180, 0, 33, 16, 32, 92, 46, 4, 96, 79, 42]
abbrev dktX5_ticks_8 : List UInt8 := dkwX5_ticks_8 ++ dktX5_ticks_9
def dkwX5_ticks_7 : List UInt8 := [46, 4, 96, 79, 42, 180, 0, 33, 16, 34, 46, 42, 3, 182, 0, 225, 153, 0, 7, 5, 167, 0, 4, 4]
abbrev dktX5_ticks_7 : List UInt8 := dkwX5_ticks_7 ++ dktX5_ticks_8
def dkwX5_ticks_6 : List UInt8 := [4, 104, 79, 167, 0, 95, 42, 180, 0, 33, 16, 33, 46, 4, 160, 0, 84, 42, 180, 0, 33, 16, 34, 92]
abbrev dktX5_ticks_6 : List UInt8 := dkwX5_ticks_6 ++ dktX5_ticks_7
def dkwX5_ticks_5 : List UInt8 := [180, 0, 33, 16, 8, 42, 180, 1, 0, 96, 46, 104, 42, 3, 182, 0, 225, 153, 0, 7, 5, 167, 0, 4]
abbrev dktX5_ticks_5 : List UInt8 := dkwX5_ticks_5 ++ dktX5_ticks_6
def dkwX5_ticks_4 : List UInt8 := [180, 1, 0, 79, 42, 180, 0, 33, 16, 38, 42, 180, 0, 33, 16, 8, 42, 180, 1, 0, 96, 46, 42]
abbrev dktX5_ticks_4 : List UInt8 := dkwX5_ticks_4 ++ dktX5_ticks_5
def dkwX5_ticks_3 : List UInt8 := [180, 1, 0, 2, 159, 0, 71, 42, 180, 0, 33, 16, 37, 5, 79, 42, 180, 0, 33, 16, 39, 42]
abbrev dktX5_ticks_3 : List UInt8 := dkwX5_ticks_3 ++ dktX5_ticks_4
def dkwX5_ticks_2 : List UInt8 := [161, 0, 19, 42, 180, 0, 33, 16, 33, 4, 79, 42, 180, 0, 33, 16, 34, 3, 79, 42, 182, 1, 9, 42]
abbrev dktX5_ticks_2 : List UInt8 := dkwX5_ticks_2 ++ dktX5_ticks_3
def dkwX5_ticks_1 : List UInt8 := [42, 180, 0, 33, 16, 32, 46, 154, 0, 36, 42, 180, 0, 33, 16, 35, 46, 42, 180, 0, 17, 16, 37, 46]
abbrev dktX5_ticks_1 : List UInt8 := dkwX5_ticks_1 ++ dktX5_ticks_2
def dkwX5_ticks_0 : List UInt8 := [42, 180, 0, 33, 16, 33, 46, 154, 0, 60, 42, 42, 180, 0, 33, 16, 32, 46, 182, 1, 6, 154, 0, 30]
abbrev dktX5_ticks_0 : List UInt8 := dkwX5_ticks_0 ++ dktX5_ticks_1
theorem dksX5_ticks_0 : cX5_ticks.data.toList.drop 0 = dktX5_ticks_0 := by decide +kernel
theorem dksX5_ticks_1 : cX5_ticks.data.toList.drop 24 = dktX5_ticks_1 := dk_seg dksX5_ticks_0 24 rfl rfl
theorem dksX5_ticks_2 : cX5_ticks.data.toList.drop 48 = dktX5_ticks_2 := dk_seg dksX5_ticks_1 24 rfl rfl
theorem dksX5_ticks_3 : cX5_ticks.data.toList.drop 72 = dktX5_ticks_3 := dk_seg dksX5_ticks_2 24 rfl rfl
theorem dksX5_ticks_4 : cX5_ticks.data.toList.drop 94 = dktX5_ticks_4 := dk_seg dksX5_ticks_3 22 rfl rfl
theorem dksX5_ticks_5 : cX5_ticks.data.toList.drop 117 = dktX5_ticks_5 := dk_seg dksX5_ticks_4 23 rfl rfl
theorem dksX5_ticks_6 : cX5_ticks.data.toList.drop 141 = dktX5_ticks_6 := dk_seg dksX5_ticks_5 24 rfl rfl
theorem dksX5_ticks_7 : cX5_ticks.data.toList.drop 165 = dktX5_ticks_7 := dk_seg dksX5_ticks_6 24 rfl rfl
theorem dksX5_ticks_8 : cX5_ticks.data.toList.drop 189 = dktX5_ticks_8 := dk_seg dksX5_ticks_7 24 rfl rfl
theorem dksX5_ticks_9 : cX5_ticks.data.toList.drop 212 = dktX5_ticks_9 := dk_seg dksX5_ticks_8 23 rfl rfl
theorem dksX5_ticks_10 : cX5_ticks.data.toList.drop 234 = dktX5_ticks_10 := dk_seg dksX5_ticks_9 22 rfl rfl
theorem dksX5_ticks_11 : cX5_ticks.data.toList.drop 258 = dktX5_ticks_11 := dk_seg dksX5_ticks_10 24 rfl rfl
theorem dksX5_ticks_12 : cX5_ticks.data.toList.drop 282 = dktX5_ticks_12 := dk_seg dksX5_ticks_11 24 rfl rfl
theorem dksX5_ticks_13 : cX5_ticks.data.toList.drop 304 = dktX5_ticks_13 := dk_seg dksX5_ticks_12 22 rfl rfl
theorem dX5_ticks_0 : decode cX5_ticks 0 = .ok (.aload_n 0, 1) := dk_42 (dk_at dksX5_ticks_0 0 rfl rfl)
theorem dX5_ticks_1 : decode cX5_ticks 1 = .ok (.getfield 33, 3) := dk_180 0 33 (dk_at dksX5_ticks_0 1 rfl rfl)
theorem dX5_ticks_4 : decode cX5_ticks 4 = .ok (.bipush 33, 2) := dk_16 33 (dk_at dksX5_ticks_0 4 rfl rfl)
theorem dX5_ticks_6 : decode cX5_ticks 6 = .ok (.iaload, 1) := dk_46 (dk_at dksX5_ticks_0 6 rfl rfl)
theorem dX5_ticks_7 : decode cX5_ticks 7 = .ok (.ifCond .ne 60, 3) := dk_154 0 60 (dk_at dksX5_ticks_0 7 rfl rfl)
theorem dX5_ticks_10 : decode cX5_ticks 10 = .ok (.aload_n 0, 1) := dk_42 (dk_at dksX5_ticks_0 10 rfl rfl)
theorem dX5_ticks_11 : decode cX5_ticks 11 = .ok (.aload_n 0, 1) := dk_42 (dk_at dksX5_ticks_0 11 rfl rfl)
theorem dX5_ticks_12 : decode cX5_ticks 12 = .ok (.getfield 33, 3) := dk_180 0 33 (dk_at dksX5_ticks_0 12 rfl rfl)
theorem dX5_ticks_15 : decode cX5_ticks 15 = .ok (.bipush 32, 2) := dk_16 32 (dk_at dksX5_ticks_0 15 rfl rfl)
theorem dX5_ticks_17 : decode cX5_ticks 17 = .ok (.iaload, 1) := dk_46 (dk_at dksX5_ticks_0 17 rfl rfl)
theorem dX5_ticks_18 : decode cX5_ticks 18 = .ok (.invokevirtual 262, 3) := dk_182 1 6 (dk_at dksX5_ticks_0 18 rfl rfl)
theorem dX5_ticks_21 : decode cX5_ticks 21 = .ok (.ifCond .ne 30, 3) := dk_154 0 30 (dk_at dksX5_ticks_0 21 rfl rfl)
theorem dX5_ticks_24 : decode cX5_ticks 24 = .ok (.aload_n 0, 1) := dk_42 (dk_at dksX5_ticks_1 0 rfl rfl)
theorem dX5_ticks_25 : decode cX5_ticks 25 = .ok (.getfield 33, 3) := dk_180 0 33 (dk_at dksX5_ticks_1 1 rfl rfl)
theorem dX5_ticks_28 : decode cX5_ticks 28 = .ok (.bipush 32, 2) := dk_16 32 (dk_at dksX5_ticks_1 4 rfl rfl)
theorem dX5_ticks_30 : decode cX5_ticks 30 = .ok (.iaload, 1) := dk_46 (dk_at dksX5_ticks_1 6 rfl rfl)
theorem dX5_ticks_31 : decode cX5_ticks 31 = .ok (.ifCond .ne 36, 3) := dk_154 0 36 (dk_at dksX5_ticks_1 7 rfl rfl)
theorem dX5_ticks_34 : decode cX5_ticks 34 = .ok (.aload_n 0, 1) := dk_42 (dk_at dksX5_ticks_1 10 rfl rfl)
theorem dX5_ticks_35 : decode cX5_ticks 35 = .ok (.getfield 33, 3) := dk_180 0 33 (dk_at dksX5_ticks_1 11 rfl rfl)
theorem dX5_ticks_38 : decode cX5_ticks 38 = .ok (.bipush 35, 2) := dk_16 35 (dk_at dksX5_ticks_1 14 rfl rfl)
theorem dX5_ticks_40 : decode cX5_ticks 40 = .ok (.iaload, 1) := dk_46 (dk_at dksX5_ticks_1 16 rfl rfl)
theorem dX5_ticks_41 : decode cX5_ticks 41 = .ok (.aload_n 0, 1) := dk_42 (dk_at dksX5_ticks_1 17 rfl rfl)
theorem dX5_ticks_42 : decode cX5_ticks 42 = .ok (.getfield 17, 3) := dk_180 0 17 (dk_at dksX5_ticks_1 18 rfl rfl)
theorem dX5_ticks_45 : decode cX5_ticks 45 = .ok (.bipush 37, 2) := dk_16 37 (dk_at dksX5_ticks_1 21 rfl rfl)
theorem dX5_ticks_47 : decode cX5_ticks 47 = .ok (.iaload, 1) := dk_46 (dk_at dksX5_ticks_1 23 rfl rfl)
theorem dX5_ticks_48 : decode cX5_ticks 48 = .ok (.if_icmp .lt 19, 3) := dk_161 0 19 (dk_at dksX5_ticks_2 0 rfl rfl)
theorem dX5_ticks_51 : decode cX5_ticks 51 = .ok (.aload_n 0, 1) := dk_42 (dk_at dksX5_ticks_2 3 rfl rfl)
theorem dX5_ticks_52 : decode cX5_ticks 52 = .ok (.getfield 33, 3) := dk_180 0 33 (dk_at dksX5_ticks_2 4 rfl rfl)
theorem dX5_ticks_55 : decode cX5_ticks 55 = .ok (.bipush 33, 2) := dk_16 33 (dk_at dksX5_ticks_2 7 rfl rfl)
theorem dX5_ticks_57 : decode cX5_ticks 57 = .ok (.iconst 1, 1) := dk_4 (dk_at dksX5_ticks_2 9 rfl rfl)
theorem dX5_ticks_58 : decode cX5_ticks 58 = .ok (.iastore, 1) := dk_79 (dk_at dksX5_ticks_2 10 rfl rfl)
theorem dX5_ticks_59 : decode cX5_ticks 59 = .ok (.aload_n 0, 1) := dk_42 (dk_at dksX5_ticks_2 11 rfl rfl)
theorem dX5_ticks_60 : decode cX5_ticks 60 = .ok (.getfield 33, 3) := dk_180 0 33 (dk_at dksX5_ticks_2 12 rfl rfl)
theorem dX5_ticks_63 : decode cX5_ticks 63 = .ok (.bipush 34, 2) := dk_16 34 (dk_at dksX5_ticks_2 15 rfl rfl)
theorem dX5_ticks_65 : decode cX5_ticks 65 = .ok (.iconst 0, 1) := dk_3 (dk_at dksX5_ticks_2 17 rfl rfl)
theorem dX5_ticks_66 : decode cX5_ticks 66 = .ok (.iastore, 1) := dk_79 (dk_at dksX5_ticks_2 18 rfl rfl)
theorem dX5_ticks_67 : decode cX5_ticks 67 = .ok (.aload_n 0, 1) := dk_42 (dk_at dksX5_ticks_2 19 rfl rfl)
theorem dX5_ticks_68 : decode cX5_ticks 68 = .ok (.invokevirtual 265, 3) := dk_182 1 9 (dk_at dksX5_ticks_2 20 rfl rfl)
theorem dX5_ticks_71 : decode cX5_ticks 71 = .ok (.aload_n 0, 1) := dk_42 (dk_at dksX5_ticks_2 23 rfl rfl)
theorem dX5_ticks_72 : decode cX5_ticks 72 = .ok (.getfield 256, 3) := dk_180 1 0 (dk_at dksX5_ticks_3 0 rfl rfl)
theorem dX5_ticks_75 : decode cX5_ticks 75 = .ok (.iconst (-1), 1) := dk_2 (dk_at dksX5_ticks_3 3 rfl rfl)
theorem dX5_ticks_76 : decode cX5_ticks 76 = .ok (.if_icmp .eq 71, 3) := dk_159 0 71 (dk_at dksX5_ticks_3 4 rfl rfl)
theorem dX5_ticks_79 : decode cX5_ticks 79 = .ok (.aload_n 0, 1) := dk_42 (dk_at dksX5_ticks_3 7 rfl rfl)
theorem dX5_ticks_80 : decode cX5_ticks 80 = .ok (.getfield 33, 3) := dk_180 0 33 (dk_at dksX5_ticks_3 8 rfl rfl)
theorem dX5_ticks_83 : decode cX5_ticks 83 = .ok (.bipush 37, 2) := dk_16 37 (dk_at dksX5_ticks_3 11 rfl rfl)
theorem dX5_ticks_85 : decode cX5_ticks 85 = .ok (.iconst 2, 1) := dk_5 (dk_at dksX5_ticks_3 13 rfl rfl)
theorem dX5_ticks_86 : decode cX5_ticks 86 = .ok (.iastore, 1) := dk_79 (dk_at dksX5_ticks_3 14 rfl rfl)
theorem dX5_ticks_87 : decode cX5_ticks 87 = .ok (.aload_n 0, 1) := dk_42 (dk_at dksX5_ticks_3 15 rfl rfl)
theorem dX5_ticks_88 : decode cX5_ticks 88 = .ok (.getfield 33, 3) := dk_180 0 33 (dk_at dksX5_ticks_3 16 rfl rfl)
theorem dX5_ticks_91 : decode cX5_ticks 91 = .ok (.bipush 39, 2) := dk_16 39 (dk_at dksX5_ticks_3 19 rfl rfl)
theorem dX5_ticks_93 : decode cX5_ticks 93 = .ok (.aload_n 0, 1) := dk_42 (dk_at dksX5_ticks_3 21 rfl rfl)
theorem dX5_ticks_94 : decode cX5_ticks 94 = .ok (.getfield 256, 3) := dk_180 1 0 (dk_at dksX5_ticks_4 0 rfl rfl)
theorem dX5_ticks_97 : decode cX5_ticks 97 = .ok (.iastore, 1) := dk_79 (dk_at dksX5_ticks_4 3 rfl rfl)
theorem dX5_ticks_98 : decode cX5_ticks 98 = .ok (.aload_n 0, 1) := dk_42 (dk_at dksX5_ticks_4 4 rfl rfl)
theorem dX5_ticks_99 : decode cX5_ticks 99 = .ok (.getfield 33, 3) := dk_180 0 33 (dk_at dksX5_ticks_4 5 rfl rfl)
theorem dX5_ticks_102 : decode cX5_ticks 102 = .ok (.bipush 38, 2) := dk_16 38 (dk_at dksX5_ticks_4 8 rfl rfl)
theorem dX5_ticks_104 : decode cX5_ticks 104 = .ok (.aload_n 0, 1) := dk_42 (dk_at dksX5_ticks_4 10 rfl rfl)
theorem dX5_ticks_105 : decode cX5_ticks 105 = .ok (.getfield 33, 3) := dk_180 0 33 (dk_at dksX5_ticks_4 11 rfl rfl)
theorem dX5_ticks_108 : decode cX5_ticks 108 = .ok (.bipush 8, 2) := dk_16 8 (dk_at dksX5_ticks_4 14 rfl rfl)
theorem dX5_ticks_110 : decode cX5_ticks 110 = .ok (.aload_n 0, 1) := dk_42 (dk_at dksX5_ticks_4 16 rfl rfl)
theorem dX5_ticks_111 : decode cX5_ticks 111 = .ok (.getfield 256, 3) := dk_180 1 0 (dk_at dksX5_ticks_4 17 rfl rfl)
theorem dX5_ticks_114 : decode cX5_ticks 114 = .ok (.iadd, 1) := dk_96 (dk_at dksX5_ticks_4 20 rfl rfl)
theorem dX5_ticks_115 : decode cX5_ticks 115 = .ok (.iaload, 1) := dk_46 (dk_at dksX5_ticks_4 21 rfl rfl)
theorem dX5_ticks_116 : decode cX5_ticks 116 = .ok (.aload_n 0, 1) := dk_42 (dk_at dksX5_ticks_4 22 rfl rfl)
theorem dX5_ticks_117 : decode cX5_ticks 117 = .ok (.getfield 33, 3) := dk_180 0 33 (dk_at dksX5_ticks_5 0 rfl rfl)
theorem dX5_ticks_120 : decode cX5_ticks 120 = .ok (.bipush 8, 2) := dk_16 8 (dk_at dksX5_ticks_5 3 rfl rfl)
theorem dX5_ticks_122 : decode cX5_ticks 122 = .ok (.aload_n 0, 1) := dk_42 (dk_at dksX5_ticks_5 5 rfl rfl)
theorem dX5_ticks_123 : decode cX5_ticks 123 = .ok (.getfield 256, 3) := dk_180 1 0 (dk_at dksX5_ticks_5 6 rfl rfl)
theorem dX5_ticks_126 : decode cX5_ticks 126 = .ok (.iadd, 1) := dk_96 (dk_at dksX5_ticks_5 9 rfl rfl)
theorem dX5_ticks_127 : decode cX5_ticks 127 = .ok (.iaload, 1) := dk_46 (dk_at dksX5_ticks_5 10 rfl rfl)
theorem dX5_ticks_128 : decode cX5_ticks 128 = .ok (.imul, 1) := dk_104 (dk_at dksX5_ticks_5 11 rfl rfl)
theorem dX5_ticks_129 : decode cX5_ticks 129 = .ok (.aload_n 0, 1) := dk_42 (dk_at dksX5_ticks_5 12 rfl rfl)
theorem dX5_ticks_130 : decode cX5_ticks 130 = .ok (.iconst 0, 1) := dk_3 (dk_at dksX5_ticks_5 13 rfl rfl)
theorem dX5_ticks_131 : decode cX5_ticks 131 = .ok (.invokevirtual 225, 3) := dk_182 0 225 (dk_at dksX5_ticks_5 14 rfl rfl)
theorem dX5_ticks_134 : decode cX5_ticks 134 = .ok (.ifCond .eq 7, 3) := dk_153 0 7 (dk_at dksX5_ticks_5 17 rfl rfl)
theorem dX5_ticks_137 : decode cX5_ticks 137 = .ok (.iconst 2, 1) := dk_5 (dk_at dksX5_ticks_5 20 rfl rfl)
theorem dX5_ticks_138 : decode cX5_ticks 138 = .ok (.goto 4, 3) := dk_167 0 4 (dk_at dksX5_ticks_5 21 rfl rfl)
theorem dX5_ticks_141 : decode cX5_ticks 141 = .ok (.iconst 1, 1) := dk_4 (dk_at dksX5_ticks_6 0 rfl rfl)
theorem dX5_ticks_142 : decode cX5_ticks 142 = .ok (.imul, 1) := dk_104 (dk_at dksX5_ticks_6 1 rfl rfl)
theorem dX5_ticks_143 : decode cX5_ticks 143 = .ok (.iastore, 1) := dk_79 (dk_at dksX5_ticks_6 2 rfl rfl)
theorem dX5_ticks_144 : decode cX5_ticks 144 = .ok (.goto 95, 3) := dk_167 0 95 (dk_at dksX5_ticks_6 3 rfl rfl)
theorem dX5_ticks_147 : decode cX5_ticks 147 = .ok (.aload_n 0, 1) := dk_42 (dk_at dksX5_ticks_6 6 rfl rfl)
theorem dX5_ticks_148 : decode cX5_ticks 148 = .ok (.getfield 33, 3) := dk_180 0 33 (dk_at dksX5_ticks_6 7 rfl rfl)
theorem dX5_ticks_151 : decode cX5_ticks 151 = .ok (.bipush 33, 2) := dk_16 33 (dk_at dksX5_ticks_6 10 rfl rfl)
theorem dX5_ticks_153 : decode cX5_ticks 153 = .ok (.iaload, 1) := dk_46 (dk_at dksX5_ticks_6 12 rfl rfl)
theorem dX5_ticks_154 : decode cX5_ticks 154 = .ok (.iconst 1, 1) := dk_4 (dk_at dksX5_ticks_6 13 rfl rfl)
theorem dX5_ticks_155 : decode cX5_ticks 155 = .ok (.if_icmp .ne 84, 3) := dk_160 0 84 (dk_at dksX5_ticks_6 14 rfl rfl)
theorem dX5_ticks_158 : decode cX5_ticks 158 = .ok (.aload_n 0, 1) := dk_42 (dk_at dksX5_ticks_6 17 rfl rfl)
theorem dX5_ticks_159 : decode cX5_ticks 159 = .ok (.getfield 33, 3) := dk_180 0 33 (dk_at dksX5_ticks_6 18 rfl rfl)
theorem dX5_ticks_162 : decode cX5_ticks 162 = .ok (.bipush 34, 2) := dk_16 34 (dk_at dksX5_ticks_6 21 rfl rfl)
theorem dX5_ticks_164 : decode cX5_ticks 164 = .ok (.dup2, 1) := dk_92 (dk_at dksX5_ticks_6 23 rfl rfl)
theorem dX5_ticks_165 : decode cX5_ticks 165 = .ok (.iaload, 1) := dk_46 (dk_at dksX5_ticks_7 0 rfl rfl)
theorem dX5_ticks_166 : decode cX5_ticks 166 = .ok (.iconst 1, 1) := dk_4 (dk_at dksX5_ticks_7 1 rfl rfl)
theorem dX5_ticks_167 : decode cX5_ticks 167 = .ok (.iadd, 1) := dk_96 (dk_at dksX5_ticks_7 2 rfl rfl)
theorem dX5_ticks_168 : decode cX5_ticks 168 = .ok (.iastore, 1) := dk_79 (dk_at dksX5_ticks_7 3 rfl rfl)
theorem dX5_ticks_169 : decode cX5_ticks 169 = .ok (.aload_n 0, 1) := dk_42 (dk_at dksX5_ticks_7 4 rfl rfl)
theorem dX5_ticks_170 : decode cX5_ticks 170 = .ok (.getfield 33, 3) := dk_180 0 33 (dk_at dksX5_ticks_7 5 rfl rfl)
theorem dX5_ticks_173 : decode cX5_ticks 173 = .ok (.bipush 34, 2) := dk_16 34 (dk_at dksX5_ticks_7 8 rfl rfl)
theorem dX5_ticks_175 : decode cX5_ticks 175 = .ok (.iaload, 1) := dk_46 (dk_at dksX5_ticks_7 10 rfl rfl)
theorem dX5_ticks_176 : decode cX5_ticks 176 = .ok (.aload_n 0, 1) := dk_42 (dk_at dksX5_ticks_7 11 rfl rfl)
theorem dX5_ticks_177 : decode cX5_ticks 177 = .ok (.iconst 0, 1) := dk_3 (dk_at dksX5_ticks_7 12 rfl rfl)
theorem dX5_ticks_178 : decode cX5_ticks 178 = .ok (.invokevirtual 225, 3) := dk_182 0 225 (dk_at dksX5_ticks_7 13 rfl rfl)
theorem dX5_ticks_181 : decode cX5_ticks 181 = .ok (.ifCond .eq 7, 3) := dk_153 0 7 (dk_at dksX5_ticks_7 16 rfl rfl)
theorem dX5_ticks_184 : decode cX5_ticks 184 = .ok (.iconst 2, 1) := dk_5 (dk_at dksX5_ticks_7 19 rfl rfl)
theorem dX5_ticks_185 : decode cX5_ticks 185 = .ok (.goto 4, 3) := dk_167 0 4 (dk_at dksX5_ticks_7 20 rfl rfl)
theorem dX5_ticks_188 : decode cX5_ticks 188 = .ok (.iconst 1, 1) := dk_4 (dk_at dksX5_ticks_7 23 rfl rfl)
theorem dX5_ticks_189 : decode cX5_ticks 189 = .ok (.if_icmp .lt 50, 3) := dk_161 0 50 (dk_at dksX5_ticks_8 0 rfl rfl)
theorem dX5_ticks_192 : decode cX5_ticks 192 = .ok (.aload_n 0, 1) := dk_42 (dk_at dksX5_ticks_8 3 rfl rfl)
theorem dX5_ticks_193 : decode cX5_ticks 193 = .ok (.getfield 33, 3) := dk_180 0 33 (dk_at dksX5_ticks_8 4 rfl rfl)
theorem dX5_ticks_196 : decode cX5_ticks 196 = .ok (.bipush 33, 2) := dk_16 33 (dk_at dksX5_ticks_8 7 rfl rfl)
theorem dX5_ticks_198 : decode cX5_ticks 198 = .ok (.iconst 0, 1) := dk_3 (dk_at dksX5_ticks_8 9 rfl rfl)
theorem dX5_ticks_199 : decode cX5_ticks 199 = .ok (.iastore, 1) := dk_79 (dk_at dksX5_ticks_8 10 rfl rfl)
theorem dX5_ticks_200 : decode cX5_ticks 200 = .ok (.aload_n 0, 1) := dk_42 (dk_at dksX5_ticks_8 11 rfl rfl)
theorem dX5_ticks_201 : decode cX5_ticks 201 = .ok (.getfield 33, 3) := dk_180 0 33 (dk_at dksX5_ticks_8 12 rfl rfl)
theorem dX5_ticks_204 : decode cX5_ticks 204 = .ok (.bipush 32, 2) := dk_16 32 (dk_at dksX5_ticks_8 15 rfl rfl)
theorem dX5_ticks_206 : decode cX5_ticks 206 = .ok (.dup2, 1) := dk_92 (dk_at dksX5_ticks_8 17 rfl rfl)
theorem dX5_ticks_207 : decode cX5_ticks 207 = .ok (.iaload, 1) := dk_46 (dk_at dksX5_ticks_8 18 rfl rfl)
theorem dX5_ticks_208 : decode cX5_ticks 208 = .ok (.iconst 1, 1) := dk_4 (dk_at dksX5_ticks_8 19 rfl rfl)
theorem dX5_ticks_209 : decode cX5_ticks 209 = .ok (.iadd, 1) := dk_96 (dk_at dksX5_ticks_8 20 rfl rfl)
theorem dX5_ticks_210 : decode cX5_ticks 210 = .ok (.iastore, 1) := dk_79 (dk_at dksX5_ticks_8 21 rfl rfl)
theorem dX5_ticks_211 : decode cX5_ticks 211 = .ok (.aload_n 0, 1) := dk_42 (dk_at dksX5_ticks_8 22 rfl rfl)
theorem dX5_ticks_212 : decode cX5_ticks 212 = .ok (.getfield 33, 3) := dk_180 0 33 (dk_at dksX5_ticks_9 0 rfl rfl)
theorem dX5_ticks_215 : decode cX5_ticks 215 = .ok (.bipush 37, 2) := dk_16 37 (dk_at dksX5_ticks_9 3 rfl rfl)
theorem dX5_ticks_217 : decode cX5_ticks 217 = .ok (.aload_n 0, 1) := dk_42 (dk_at dksX5_ticks_9 5 rfl rfl)
theorem dX5_ticks_218 : decode cX5_ticks 218 = .ok (.getfield 33, 3) := dk_180 0 33 (dk_at dksX5_ticks_9 6 rfl rfl)
theorem dX5_ticks_221 : decode cX5_ticks 221 = .ok (.bipush 32, 2) := dk_16 32 (dk_at dksX5_ticks_9 9 rfl rfl)
theorem dX5_ticks_223 : decode cX5_ticks 223 = .ok (.iaload, 1) := dk_46 (dk_at dksX5_ticks_9 11 rfl rfl)
theorem dX5_ticks_224 : decode cX5_ticks 224 = .ok (.aload_n 0, 1) := dk_42 (dk_at dksX5_ticks_9 12 rfl rfl)
theorem dX5_ticks_225 : decode cX5_ticks 225 = .ok (.getfield 17, 3) := dk_180 0 17 (dk_at dksX5_ticks_9 13 rfl rfl)
theorem dX5_ticks_228 : decode cX5_ticks 228 = .ok (.iconst 0, 1) := dk_3 (dk_at dksX5_ticks_9 16 rfl rfl)
theorem dX5_ticks_229 : decode cX5_ticks 229 = .ok (.iaload, 1) := dk_46 (dk_at dksX5_ticks_9 17 rfl rfl)
theorem dX5_ticks_230 : decode cX5_ticks 230 = .ok (.if_icmp .ne 7, 3) := dk_160 0 7 (dk_at dksX5_ticks_9 18 rfl rfl)
theorem dX5_ticks_233 : decode cX5_ticks 233 = .ok (.iconst 1, 1) := dk_4 (dk_at dksX5_ticks_9 21 rfl rfl)
theorem dX5_ticks_234 : decode cX5_ticks 234 = .ok (.goto 4, 3) := dk_167 0 4 (dk_at dksX5_ticks_10 0 rfl rfl)
theorem dX5_ticks_237 : decode cX5_ticks 237 = .ok (.iconst 0, 1) := dk_3 (dk_at dksX5_ticks_10 3 rfl rfl)
theorem dX5_ticks_238 : decode cX5_ticks 238 = .ok (.iastore, 1) := dk_79 (dk_at dksX5_ticks_10 4 rfl rfl)
theorem dX5_ticks_239 : decode cX5_ticks 239 = .ok (.aload_n 0, 1) := dk_42 (dk_at dksX5_ticks_10 5 rfl rfl)
theorem dX5_ticks_240 : decode cX5_ticks 240 = .ok (.getfield 33, 3) := dk_180 0 33 (dk_at dksX5_ticks_10 6 rfl rfl)
theorem dX5_ticks_243 : decode cX5_ticks 243 = .ok (.bipush 35, 2) := dk_16 35 (dk_at dksX5_ticks_10 9 rfl rfl)
theorem dX5_ticks_245 : decode cX5_ticks 245 = .ok (.dup2, 1) := dk_92 (dk_at dksX5_ticks_10 11 rfl rfl)
theorem dX5_ticks_246 : decode cX5_ticks 246 = .ok (.iaload, 1) := dk_46 (dk_at dksX5_ticks_10 12 rfl rfl)
theorem dX5_ticks_247 : decode cX5_ticks 247 = .ok (.aload_n 0, 1) := dk_42 (dk_at dksX5_ticks_10 13 rfl rfl)
theorem dX5_ticks_248 : decode cX5_ticks 248 = .ok (.getfield 33, 3) := dk_180 0 33 (dk_at dksX5_ticks_10 14 rfl rfl)
theorem dX5_ticks_251 : decode cX5_ticks 251 = .ok (.bipush 33, 2) := dk_16 33 (dk_at dksX5_ticks_10 17 rfl rfl)
theorem dX5_ticks_253 : decode cX5_ticks 253 = .ok (.iaload, 1) := dk_46 (dk_at dksX5_ticks_10 19 rfl rfl)
theorem dX5_ticks_254 : decode cX5_ticks 254 = .ok (.ifCond .ne 17, 3) := dk_154 0 17 (dk_at dksX5_ticks_10 20 rfl rfl)
theorem dX5_ticks_257 : decode cX5_ticks 257 = .ok (.aload_n 0, 1) := dk_42 (dk_at dksX5_ticks_10 23 rfl rfl)
theorem dX5_ticks_258 : decode cX5_ticks 258 = .ok (.getfield 33, 3) := dk_180 0 33 (dk_at dksX5_ticks_11 0 rfl rfl)
theorem dX5_ticks_261 : decode cX5_ticks 261 = .ok (.bipush 32, 2) := dk_16 32 (dk_at dksX5_ticks_11 3 rfl rfl)
theorem dX5_ticks_263 : decode cX5_ticks 263 = .ok (.iaload, 1) := dk_46 (dk_at dksX5_ticks_11 5 rfl rfl)
theorem dX5_ticks_264 : decode cX5_ticks 264 = .ok (.ifCond .ne 7, 3) := dk_154 0 7 (dk_at dksX5_ticks_11 6 rfl rfl)
theorem dX5_ticks_267 : decode cX5_ticks 267 = .ok (.iconst 1, 1) := dk_4 (dk_at dksX5_ticks_11 9 rfl rfl)
theorem dX5_ticks_268 : decode cX5_ticks 268 = .ok (.goto 4, 3) := dk_167 0 4 (dk_at dksX5_ticks_11 10 rfl rfl)
theorem dX5_ticks_271 : decode cX5_ticks 271 = .ok (.iconst 0, 1) := dk_3 (dk_at dksX5_ticks_11 13 rfl rfl)
theorem dX5_ticks_272 : decode cX5_ticks 272 = .ok (.iadd, 1) := dk_96 (dk_at dksX5_ticks_11 14 rfl rfl)
theorem dX5_ticks_273 : decode cX5_ticks 273 = .ok (.iastore, 1) := dk_79 (dk_at dksX5_ticks_11 15 rfl rfl)
theorem dX5_ticks_274 : decode cX5_ticks 274 = .ok (.aload_n 0, 1) := dk_42 (dk_at dksX5_ticks_11 16 rfl rfl)
theorem dX5_ticks_275 : decode cX5_ticks 275 = .ok (.getfield 33, 3) := dk_180 0 33 (dk_at dksX5_ticks_11 17 rfl rfl)
theorem dX5_ticks_278 : decode cX5_ticks 278 = .ok (.bipush 36, 2) := dk_16 36 (dk_at dksX5_ticks_11 20 rfl rfl)
theorem dX5_ticks_280 : decode cX5_ticks 280 = .ok (.dup2, 1) := dk_92 (dk_at dksX5_ticks_11 22 rfl rfl)
theorem dX5_ticks_281 : decode cX5_ticks 281 = .ok (.iaload, 1) := dk_46 (dk_at dksX5_ticks_11 23 rfl rfl)
theorem dX5_ticks_282 : decode cX5_ticks 282 = .ok (.iconst 1, 1) := dk_4 (dk_at dksX5_ticks_12 0 rfl rfl)
theorem dX5_ticks_283 : decode cX5_ticks 283 = .ok (.iadd, 1) := dk_96 (dk_at dksX5_ticks_12 1 rfl rfl)
theorem dX5_ticks_284 : decode cX5_ticks 284 = .ok (.iastore, 1) := dk_79 (dk_at dksX5_ticks_12 2 rfl rfl)
theorem dX5_ticks_285 : decode cX5_ticks 285 = .ok (.aload_n 0, 1) := dk_42 (dk_at dksX5_ticks_12 3 rfl rfl)
theorem dX5_ticks_286 : decode cX5_ticks 286 = .ok (.getfield 33, 3) := dk_180 0 33 (dk_at dksX5_ticks_12 4 rfl rfl)
theorem dX5_ticks_289 : decode cX5_ticks 289 = .ok (.bipush 37, 2) := dk_16 37 (dk_at dksX5_ticks_12 7 rfl rfl)
theorem dX5_ticks_291 : decode cX5_ticks 291 = .ok (.iaload, 1) := dk_46 (dk_at dksX5_ticks_12 9 rfl rfl)
theorem dX5_ticks_292 : decode cX5_ticks 292 = .ok (.ifCond .ne 23, 3) := dk_154 0 23 (dk_at dksX5_ticks_12 10 rfl rfl)
theorem dX5_ticks_295 : decode cX5_ticks 295 = .ok (.aload_n 0, 1) := dk_42 (dk_at dksX5_ticks_12 13 rfl rfl)
theorem dX5_ticks_296 : decode cX5_ticks 296 = .ok (.getfield 33, 3) := dk_180 0 33 (dk_at dksX5_ticks_12 14 rfl rfl)
theorem dX5_ticks_299 : decode cX5_ticks 299 = .ok (.bipush 36, 2) := dk_16 36 (dk_at dksX5_ticks_12 17 rfl rfl)
theorem dX5_ticks_301 : decode cX5_ticks 301 = .ok (.iaload, 1) := dk_46 (dk_at dksX5_ticks_12 19 rfl rfl)
theorem dX5_ticks_302 : decode cX5_ticks 302 = .ok (.bipush 99, 2) := dk_16 99 (dk_at dksX5_ticks_12 20 rfl rfl)
theorem dX5_ticks_304 : decode cX5_ticks 304 = .ok (.if_icmp .ne 11, 3) := dk_160 0 11 (dk_at dksX5_ticks_13 0 rfl rfl)
theorem dX5_ticks_307 : decode cX5_ticks 307 = .ok (.aload_n 0, 1) := dk_42 (dk_at dksX5_ticks_13 3 rfl rfl)
theorem dX5_ticks_308 : decode cX5_ticks 308 = .ok (.getfield 33, 3) := dk_180 0 33 (dk_at dksX5_ticks_13 4 rfl rfl)
theorem dX5_ticks_311 : decode cX5_ticks 311 = .ok (.bipush 37, 2) := dk_16 37 (dk_at dksX5_ticks_13 7 rfl rfl)
theorem dX5_ticks_313 : decode cX5_ticks 313 = .ok (.iconst 3, 1) := dk_6 (dk_at dksX5_ticks_13 9 rfl rfl)
theorem dX5_ticks_314 : decode cX5_ticks 314 = .ok (.iastore, 1) := dk_79 (dk_at dksX5_ticks_13 10 rfl rfl)
theorem dX5_ticks_315 : decode cX5_ticks 315 = .ok (.aload_n 0, 1) := dk_42 (dk_at dksX5_ticks_13 11 rfl rfl)
theorem dX5_ticks_316 : decode cX5_ticks 316 = .ok (.getfield 33, 3) := dk_180 0 33 (dk_at dksX5_ticks_13 12 rfl rfl)
theorem dX5_ticks_319 : decode cX5_ticks 319 = .ok (.bipush 41, 2) := dk_16 41 (dk_at dksX5_ticks_13 15 rfl rfl)
theorem dX5_ticks_321 : decode cX5_ticks 321 = .ok (.iconst 0, 1) := dk_3 (dk_at dksX5_ticks_13 17 rfl rfl)
theorem dX5_ticks_322 : decode cX5_ticks 322 = .ok (.iastore, 1) := dk_79 (dk_at dksX5_ticks_13 18 rfl rfl)
theorem dX5_ticks_323 : decode cX5_ticks 323 = .ok (.return_, 1) := dk_177 (dk_at dksX5_ticks_13 19 rfl rfl)
abbrev cX5_isFree : ByteArray := prog_21_method_44_code
def yX5_isFree : MethodName := ⟨RX5, "isFree", "(I)Z"⟩
def dkwX5_isFree_5 : List UInt8 := [4, 172]
abbrev dktX5_isFree_5 : List UInt8 := dkwX5_isFree_5 ++ []
def dkwX5_isFree_4 : List UInt8 := [16, 8, 28, 96, 46, 108, 42, 180, 0, 17, 16, 36, 46, 163, 0, 5, 3, 172, 132, 2, 1, 167, 255, 141]
abbrev dktX5_isFree_4 : List UInt8 := dkwX5_isFree_4 ++ dktX5_isFree_5
def dkwX5_isFree_3 : List UInt8 := [42, 180, 0, 33, 3, 28, 96, 46, 42, 180, 0, 33, 16, 8, 28, 96, 46, 96, 4, 100, 42, 180, 0, 33]
abbrev dktX5_isFree_3 : List UInt8 := dkwX5_isFree_3 ++ dktX5_isFree_4
def dkwX5_isFree_2 : List UInt8 := [42, 180, 0, 33, 16, 24, 28, 96, 46, 4, 159, 0, 56, 42, 28, 182, 0, 253, 153, 0, 6, 167, 0, 45]
abbrev dktX5_isFree_2 : List UInt8 := dkwX5_isFree_2 ++ dktX5_isFree_3
def dkwX5_isFree_1 : List UInt8 := [42, 180, 0, 33, 3, 28, 96, 46, 158, 0, 82, 42, 180, 0, 33, 16, 16, 28, 96, 46, 5, 159, 0, 69]
abbrev dktX5_isFree_1 : List UInt8 := dkwX5_isFree_1 ++ dktX5_isFree_2
def dkwX5_isFree_0 : List UInt8 := [3, 61, 28, 42, 180, 0, 17, 4, 46, 162, 0, 111, 42, 180, 0, 17, 5, 28, 96, 46, 27, 160, 0, 93]
abbrev dktX5_isFree_0 : List UInt8 := dkwX5_isFree_0 ++ dktX5_isFree_1
theorem dksX5_isFree_0 : cX5_isFree.data.toList.drop 0 = dktX5_isFree_0 := by decide +kernel
theorem dksX5_isFree_1 : cX5_isFree.data.toList.drop 24 = dktX5_isFree_1 := dk_seg dksX5_isFree_0 24 rfl rfl
theorem dksX5_isFree_2 : cX5_isFree.data.toList.drop 48 = dktX5_isFree_2 := dk_seg dksX5_isFree_1 24 rfl rfl
theorem dksX5_isFree_3 : cX5_isFree.data.toList.drop 72 = dktX5_isFree_3 := dk_seg dksX5_isFree_2 24 rfl rfl
theorem dksX5_isFree_4 : cX5_isFree.data.toList.drop 96 = dktX5_isFree_4 := dk_seg dksX5_isFree_3 24 rfl rfl
theorem dksX5_isFree_5 : cX5_isFree.data.toList.drop 120 = dktX5_isFree_5 := dk_seg dksX5_isFree_4 24 rfl rfl
theorem dX5_isFree_0 : decode cX5_isFree 0 = .ok (.iconst 0, 1) := dk_3 (dk_at dksX5_isFree_0 0 rfl rfl)
theorem dX5_isFree_1 : decode cX5_isFree 1 = .ok (.istore_n 2, 1) := dk_61 (dk_at dksX5_isFree_0 1 rfl rfl)
theorem dX5_isFree_2 : decode cX5_isFree 2 = .ok (.iload_n 2, 1) := dk_28 (dk_at dksX5_isFree_0 2 rfl rfl)
theorem dX5_isFree_3 : decode cX5_isFree 3 = .ok (.aload_n 0, 1) := dk_42 (dk_at dksX5_isFree_0 3 rfl rfl)
theorem dX5_isFree_4 : decode cX5_isFree 4 = .ok (.getfield 17, 3) := dk_180 0 17 (dk_at dksX5_isFree_0 4 rfl rfl)
theorem dX5_isFree_7 : decode cX5_isFree 7 = .ok (.iconst 1, 1) := dk_4 (dk_at dksX5_isFree_0 7 rfl rfl)
theorem dX5_isFree_8 : decode cX5_isFree 8 = .ok (.iaload, 1) := dk_46 (dk_at dksX5_isFree_0 8 rfl rfl)
theorem dX5_isFree_9 : decode cX5_isFree 9 = .ok (.if_icmp .ge 111, 3) := dk_162 0 111 (dk_at dksX5_isFree_0 9 rfl rfl)
theorem dX5_isFree_12 : decode cX5_isFree 12 = .ok (.aload_n 0, 1) := dk_42 (dk_at dksX5_isFree_0 12 rfl rfl)
theorem dX5_isFree_13 : decode cX5_isFree 13 = .ok (.getfield 17, 3) := dk_180 0 17 (dk_at dksX5_isFree_0 13 rfl rfl)
theorem dX5_isFree_16 : decode cX5_isFree 16 = .ok (.iconst 2, 1) := dk_5 (dk_at dksX5_isFree_0 16 rfl rfl)
theorem dX5_isFree_17 : decode cX5_isFree 17 = .ok (.iload_n 2, 1) := dk_28 (dk_at dksX5_isFree_0 17 rfl rfl)
theorem dX5_isFree_18 : decode cX5_isFree 18 = .ok (.iadd, 1) := dk_96 (dk_at dksX5_isFree_0 18 rfl rfl)
theorem dX5_isFree_19 : decode cX5_isFree 19 = .ok (.iaload, 1) := dk_46 (dk_at dksX5_isFree_0 19 rfl rfl)
theorem dX5_isFree_20 : decode cX5_isFree 20 = .ok (.iload_n 1, 1) := dk_27 (dk_at dksX5_isFree_0 20 rfl rfl)
theorem dX5_isFree_21 : decode cX5_isFree 21 = .ok (.if_icmp .ne 93, 3) := dk_160 0 93 (dk_at dksX5_isFree_0 21 rfl rfl)
theorem dX5_isFree_24 : decode cX5_isFree 24 = .ok (.aload_n 0, 1) := dk_42 (dk_at dksX5_isFree_1 0 rfl rfl)
theorem dX5_isFree_25 : decode cX5_isFree 25 = .ok (.getfield 33, 3) := dk_180 0 33 (dk_at dksX5_isFree_1 1 rfl rfl)
theorem dX5_isFree_28 : decode cX5_isFree 28 = .ok (.iconst 0, 1) := dk_3 (dk_at dksX5_isFree_1 4 rfl rfl)
theorem dX5_isFree_29 : decode cX5_isFree 29 = .ok (.iload_n 2, 1) := dk_28 (dk_at dksX5_isFree_1 5 rfl rfl)
theorem dX5_isFree_30 : decode cX5_isFree 30 = .ok (.iadd, 1) := dk_96 (dk_at dksX5_isFree_1 6 rfl rfl)
theorem dX5_isFree_31 : decode cX5_isFree 31 = .ok (.iaload, 1) := dk_46 (dk_at dksX5_isFree_1 7 rfl rfl)
theorem dX5_isFree_32 : decode cX5_isFree 32 = .ok (.ifCond .le 82, 3) := dk_158 0 82 (dk_at dksX5_isFree_1 8 rfl rfl)
theorem dX5_isFree_35 : decode cX5_isFree 35 = .ok (.aload_n 0, 1) := dk_42 (dk_at dksX5_isFree_1 11 rfl rfl)
theorem dX5_isFree_36 : decode cX5_isFree 36 = .ok (.getfield 33, 3) := dk_180 0 33 (dk_at dksX5_isFree_1 12 rfl rfl)
theorem dX5_isFree_39 : decode cX5_isFree 39 = .ok (.bipush 16, 2) := dk_16 16 (dk_at dksX5_isFree_1 15 rfl rfl)
theorem dX5_isFree_41 : decode cX5_isFree 41 = .ok (.iload_n 2, 1) := dk_28 (dk_at dksX5_isFree_1 17 rfl rfl)
theorem dX5_isFree_42 : decode cX5_isFree 42 = .ok (.iadd, 1) := dk_96 (dk_at dksX5_isFree_1 18 rfl rfl)
theorem dX5_isFree_43 : decode cX5_isFree 43 = .ok (.iaload, 1) := dk_46 (dk_at dksX5_isFree_1 19 rfl rfl)
theorem dX5_isFree_44 : decode cX5_isFree 44 = .ok (.iconst 2, 1) := dk_5 (dk_at dksX5_isFree_1 20 rfl rfl)
theorem dX5_isFree_45 : decode cX5_isFree 45 = .ok (.if_icmp .eq 69, 3) := dk_159 0 69 (dk_at dksX5_isFree_1 21 rfl rfl)
theorem dX5_isFree_48 : decode cX5_isFree 48 = .ok (.aload_n 0, 1) := dk_42 (dk_at dksX5_isFree_2 0 rfl rfl)
theorem dX5_isFree_49 : decode cX5_isFree 49 = .ok (.getfield 33, 3) := dk_180 0 33 (dk_at dksX5_isFree_2 1 rfl rfl)
theorem dX5_isFree_52 : decode cX5_isFree 52 = .ok (.bipush 24, 2) := dk_16 24 (dk_at dksX5_isFree_2 4 rfl rfl)
theorem dX5_isFree_54 : decode cX5_isFree 54 = .ok (.iload_n 2, 1) := dk_28 (dk_at dksX5_isFree_2 6 rfl rfl)
theorem dX5_isFree_55 : decode cX5_isFree 55 = .ok (.iadd, 1) := dk_96 (dk_at dksX5_isFree_2 7 rfl rfl)
theorem dX5_isFree_56 : decode cX5_isFree 56 = .ok (.iaload, 1) := dk_46 (dk_at dksX5_isFree_2 8 rfl rfl)
theorem dX5_isFree_57 : decode cX5_isFree 57 = .ok (.iconst 1, 1) := dk_4 (dk_at dksX5_isFree_2 9 rfl rfl)
theorem dX5_isFree_58 : decode cX5_isFree 58 = .ok (.if_icmp .eq 56, 3) := dk_159 0 56 (dk_at dksX5_isFree_2 10 rfl rfl)
theorem dX5_isFree_61 : decode cX5_isFree 61 = .ok (.aload_n 0, 1) := dk_42 (dk_at dksX5_isFree_2 13 rfl rfl)
theorem dX5_isFree_62 : decode cX5_isFree 62 = .ok (.iload_n 2, 1) := dk_28 (dk_at dksX5_isFree_2 14 rfl rfl)
theorem dX5_isFree_63 : decode cX5_isFree 63 = .ok (.invokevirtual 253, 3) := dk_182 0 253 (dk_at dksX5_isFree_2 15 rfl rfl)
theorem dX5_isFree_66 : decode cX5_isFree 66 = .ok (.ifCond .eq 6, 3) := dk_153 0 6 (dk_at dksX5_isFree_2 18 rfl rfl)
theorem dX5_isFree_69 : decode cX5_isFree 69 = .ok (.goto 45, 3) := dk_167 0 45 (dk_at dksX5_isFree_2 21 rfl rfl)
theorem dX5_isFree_72 : decode cX5_isFree 72 = .ok (.aload_n 0, 1) := dk_42 (dk_at dksX5_isFree_3 0 rfl rfl)
theorem dX5_isFree_73 : decode cX5_isFree 73 = .ok (.getfield 33, 3) := dk_180 0 33 (dk_at dksX5_isFree_3 1 rfl rfl)
theorem dX5_isFree_76 : decode cX5_isFree 76 = .ok (.iconst 0, 1) := dk_3 (dk_at dksX5_isFree_3 4 rfl rfl)
theorem dX5_isFree_77 : decode cX5_isFree 77 = .ok (.iload_n 2, 1) := dk_28 (dk_at dksX5_isFree_3 5 rfl rfl)
theorem dX5_isFree_78 : decode cX5_isFree 78 = .ok (.iadd, 1) := dk_96 (dk_at dksX5_isFree_3 6 rfl rfl)
theorem dX5_isFree_79 : decode cX5_isFree 79 = .ok (.iaload, 1) := dk_46 (dk_at dksX5_isFree_3 7 rfl rfl)
theorem dX5_isFree_80 : decode cX5_isFree 80 = .ok (.aload_n 0, 1) := dk_42 (dk_at dksX5_isFree_3 8 rfl rfl)
theorem dX5_isFree_81 : decode cX5_isFree 81 = .ok (.getfield 33, 3) := dk_180 0 33 (dk_at dksX5_isFree_3 9 rfl rfl)
theorem dX5_isFree_84 : decode cX5_isFree 84 = .ok (.bipush 8, 2) := dk_16 8 (dk_at dksX5_isFree_3 12 rfl rfl)
theorem dX5_isFree_86 : decode cX5_isFree 86 = .ok (.iload_n 2, 1) := dk_28 (dk_at dksX5_isFree_3 14 rfl rfl)
theorem dX5_isFree_87 : decode cX5_isFree 87 = .ok (.iadd, 1) := dk_96 (dk_at dksX5_isFree_3 15 rfl rfl)
theorem dX5_isFree_88 : decode cX5_isFree 88 = .ok (.iaload, 1) := dk_46 (dk_at dksX5_isFree_3 16 rfl rfl)
theorem dX5_isFree_89 : decode cX5_isFree 89 = .ok (.iadd, 1) := dk_96 (dk_at dksX5_isFree_3 17 rfl rfl)
theorem dX5_isFree_90 : decode cX5_isFree 90 = .ok (.iconst 1, 1) := dk_4 (dk_at dksX5_isFree_3 18 rfl rfl)
theorem dX5_isFree_91 : decode cX5_isFree 91 = .ok (.isub, 1) := dk_100 (dk_at dksX5_isFree_3 19 rfl rfl)
theorem dX5_isFree_92 : decode cX5_isFree 92 = .ok (.aload_n 0, 1) := dk_42 (dk_at dksX5_isFree_3 20 rfl rfl)
theorem dX5_isFree_93 : decode cX5_isFree 93 = .ok (.getfield 33, 3) := dk_180 0 33 (dk_at dksX5_isFree_3 21 rfl rfl)
theorem dX5_isFree_96 : decode cX5_isFree 96 = .ok (.bipush 8, 2) := dk_16 8 (dk_at dksX5_isFree_4 0 rfl rfl)
theorem dX5_isFree_98 : decode cX5_isFree 98 = .ok (.iload_n 2, 1) := dk_28 (dk_at dksX5_isFree_4 2 rfl rfl)
theorem dX5_isFree_99 : decode cX5_isFree 99 = .ok (.iadd, 1) := dk_96 (dk_at dksX5_isFree_4 3 rfl rfl)
theorem dX5_isFree_100 : decode cX5_isFree 100 = .ok (.iaload, 1) := dk_46 (dk_at dksX5_isFree_4 4 rfl rfl)
theorem dX5_isFree_101 : decode cX5_isFree 101 = .ok (.idiv, 1) := dk_108 (dk_at dksX5_isFree_4 5 rfl rfl)
theorem dX5_isFree_102 : decode cX5_isFree 102 = .ok (.aload_n 0, 1) := dk_42 (dk_at dksX5_isFree_4 6 rfl rfl)
theorem dX5_isFree_103 : decode cX5_isFree 103 = .ok (.getfield 17, 3) := dk_180 0 17 (dk_at dksX5_isFree_4 7 rfl rfl)
theorem dX5_isFree_106 : decode cX5_isFree 106 = .ok (.bipush 36, 2) := dk_16 36 (dk_at dksX5_isFree_4 10 rfl rfl)
theorem dX5_isFree_108 : decode cX5_isFree 108 = .ok (.iaload, 1) := dk_46 (dk_at dksX5_isFree_4 12 rfl rfl)
theorem dX5_isFree_109 : decode cX5_isFree 109 = .ok (.if_icmp .gt 5, 3) := dk_163 0 5 (dk_at dksX5_isFree_4 13 rfl rfl)
theorem dX5_isFree_112 : decode cX5_isFree 112 = .ok (.iconst 0, 1) := dk_3 (dk_at dksX5_isFree_4 16 rfl rfl)
theorem dX5_isFree_113 : decode cX5_isFree 113 = .ok (.ireturn, 1) := dk_172 (dk_at dksX5_isFree_4 17 rfl rfl)
theorem dX5_isFree_114 : decode cX5_isFree 114 = .ok (.iinc 2 1, 3) := dk_132 2 1 (dk_at dksX5_isFree_4 18 rfl rfl)
theorem dX5_isFree_117 : decode cX5_isFree 117 = .ok (.goto (-115), 3) := dk_167 255 141 (dk_at dksX5_isFree_4 21 rfl rfl)
theorem dX5_isFree_120 : decode cX5_isFree 120 = .ok (.iconst 1, 1) := dk_4 (dk_at dksX5_isFree_5 0 rfl rfl)
theorem dX5_isFree_121 : decode cX5_isFree 121 = .ok (.ireturn, 1) := dk_172 (dk_at dksX5_isFree_5 1 rfl rfl)
abbrev cX5_isHidden : ByteArray := prog_21_method_43_code
def yX5_isHidden : MethodName := ⟨RX5, "isHidden", "(I)Z"⟩
def dkwX5_isHidden_4 : List UInt8 := [28, 96, 46, 42, 180, 0, 33, 3, 27, 96, 46, 162, 0, 5, 4, 172, 132, 2, 1, 167, 255, 145, 3, 172]
abbrev dktX5_isHidden_4 : List UInt8 := dkwX5_isHidden_4 ++ []
def dkwX5_isHidden_3 : List UInt8 := [42, 180, 0, 33, 3, 28, 96, 46, 133, 10, 20, 0, 213, 184, 0, 152, 153, 0, 24, 42, 180, 0, 33, 3]
abbrev dktX5_isHidden_3 : List UInt8 := dkwX5_isHidden_3 ++ dktX5_isHidden_4
def dkwX5_isHidden_2 : List UInt8 := [180, 0, 33, 16, 16, 28, 96, 46, 5, 160, 0, 55, 42, 180, 0, 33, 16, 8, 28, 96, 46, 154, 0, 43]
abbrev dktX5_isHidden_2 : List UInt8 := dkwX5_isHidden_2 ++ dktX5_isHidden_3
def dkwX5_isHidden_1 : List UInt8 := [5, 27, 96, 46, 4, 100, 160, 0, 80, 42, 180, 0, 17, 16, 26, 28, 96, 46, 158, 0, 68, 42]
abbrev dktX5_isHidden_1 : List UInt8 := dkwX5_isHidden_1 ++ dktX5_isHidden_2
def dkwX5_isHidden_0 : List UInt8 := [3, 61, 28, 42, 180, 0, 17, 4, 46, 162, 0, 107, 42, 180, 0, 17, 5, 28, 96, 46, 42, 180, 0, 17]
abbrev dktX5_isHidden_0 : List UInt8 := dkwX5_isHidden_0 ++ dktX5_isHidden_1
theorem dksX5_isHidden_0 : cX5_isHidden.data.toList.drop 0 = dktX5_isHidden_0 := by decide +kernel
theorem dksX5_isHidden_1 : cX5_isHidden.data.toList.drop 24 = dktX5_isHidden_1 := dk_seg dksX5_isHidden_0 24 rfl rfl
theorem dksX5_isHidden_2 : cX5_isHidden.data.toList.drop 46 = dktX5_isHidden_2 := dk_seg dksX5_isHidden_1 22 rfl rfl
theorem dksX5_isHidden_3 : cX5_isHidden.data.toList.drop 70 = dktX5_isHidden_3 := dk_seg dksX5_isHidden_2 24 rfl rfl
theorem dksX5_isHidden_4 : cX5_isHidden.data.toList.drop 94 = dktX5_isHidden_4 := dk_seg dksX5_isHidden_3 24 rfl rfl
theorem dX5_isHidden_0 : decode cX5_isHidden 0 = .ok (.iconst 0, 1) := dk_3 (dk_at dksX5_isHidden_0 0 rfl rfl)
theorem dX5_isHidden_1 : decode cX5_isHidden 1 = .ok (.istore_n 2, 1) := dk_61 (dk_at dksX5_isHidden_0 1 rfl rfl)
theorem dX5_isHidden_2 : decode cX5_isHidden 2 = .ok (.iload_n 2, 1) := dk_28 (dk_at dksX5_isHidden_0 2 rfl rfl)
theorem dX5_isHidden_3 : decode cX5_isHidden 3 = .ok (.aload_n 0, 1) := dk_42 (dk_at dksX5_isHidden_0 3 rfl rfl)
theorem dX5_isHidden_4 : decode cX5_isHidden 4 = .ok (.getfield 17, 3) := dk_180 0 17 (dk_at dksX5_isHidden_0 4 rfl rfl)
theorem dX5_isHidden_7 : decode cX5_isHidden 7 = .ok (.iconst 1, 1) := dk_4 (dk_at dksX5_isHidden_0 7 rfl rfl)
theorem dX5_isHidden_8 : decode cX5_isHidden 8 = .ok (.iaload, 1) := dk_46 (dk_at dksX5_isHidden_0 8 rfl rfl)
theorem dX5_isHidden_9 : decode cX5_isHidden 9 = .ok (.if_icmp .ge 107, 3) := dk_162 0 107 (dk_at dksX5_isHidden_0 9 rfl rfl)
theorem dX5_isHidden_12 : decode cX5_isHidden 12 = .ok (.aload_n 0, 1) := dk_42 (dk_at dksX5_isHidden_0 12 rfl rfl)
theorem dX5_isHidden_13 : decode cX5_isHidden 13 = .ok (.getfield 17, 3) := dk_180 0 17 (dk_at dksX5_isHidden_0 13 rfl rfl)
theorem dX5_isHidden_16 : decode cX5_isHidden 16 = .ok (.iconst 2, 1) := dk_5 (dk_at dksX5_isHidden_0 16 rfl rfl)
theorem dX5_isHidden_17 : decode cX5_isHidden 17 = .ok (.iload_n 2, 1) := dk_28 (dk_at dksX5_isHidden_0 17 rfl rfl)
theorem dX5_isHidden_18 : decode cX5_isHidden 18 = .ok (.iadd, 1) := dk_96 (dk_at dksX5_isHidden_0 18 rfl rfl)
theorem dX5_isHidden_19 : decode cX5_isHidden 19 = .ok (.iaload, 1) := dk_46 (dk_at dksX5_isHidden_0 19 rfl rfl)
theorem dX5_isHidden_20 : decode cX5_isHidden 20 = .ok (.aload_n 0, 1) := dk_42 (dk_at dksX5_isHidden_0 20 rfl rfl)
theorem dX5_isHidden_21 : decode cX5_isHidden 21 = .ok (.getfield 17, 3) := dk_180 0 17 (dk_at dksX5_isHidden_0 21 rfl rfl)
theorem dX5_isHidden_24 : decode cX5_isHidden 24 = .ok (.iconst 2, 1) := dk_5 (dk_at dksX5_isHidden_1 0 rfl rfl)
theorem dX5_isHidden_25 : decode cX5_isHidden 25 = .ok (.iload_n 1, 1) := dk_27 (dk_at dksX5_isHidden_1 1 rfl rfl)
theorem dX5_isHidden_26 : decode cX5_isHidden 26 = .ok (.iadd, 1) := dk_96 (dk_at dksX5_isHidden_1 2 rfl rfl)
theorem dX5_isHidden_27 : decode cX5_isHidden 27 = .ok (.iaload, 1) := dk_46 (dk_at dksX5_isHidden_1 3 rfl rfl)
theorem dX5_isHidden_28 : decode cX5_isHidden 28 = .ok (.iconst 1, 1) := dk_4 (dk_at dksX5_isHidden_1 4 rfl rfl)
theorem dX5_isHidden_29 : decode cX5_isHidden 29 = .ok (.isub, 1) := dk_100 (dk_at dksX5_isHidden_1 5 rfl rfl)
theorem dX5_isHidden_30 : decode cX5_isHidden 30 = .ok (.if_icmp .ne 80, 3) := dk_160 0 80 (dk_at dksX5_isHidden_1 6 rfl rfl)
theorem dX5_isHidden_33 : decode cX5_isHidden 33 = .ok (.aload_n 0, 1) := dk_42 (dk_at dksX5_isHidden_1 9 rfl rfl)
theorem dX5_isHidden_34 : decode cX5_isHidden 34 = .ok (.getfield 17, 3) := dk_180 0 17 (dk_at dksX5_isHidden_1 10 rfl rfl)
theorem dX5_isHidden_37 : decode cX5_isHidden 37 = .ok (.bipush 26, 2) := dk_16 26 (dk_at dksX5_isHidden_1 13 rfl rfl)
theorem dX5_isHidden_39 : decode cX5_isHidden 39 = .ok (.iload_n 2, 1) := dk_28 (dk_at dksX5_isHidden_1 15 rfl rfl)
theorem dX5_isHidden_40 : decode cX5_isHidden 40 = .ok (.iadd, 1) := dk_96 (dk_at dksX5_isHidden_1 16 rfl rfl)
theorem dX5_isHidden_41 : decode cX5_isHidden 41 = .ok (.iaload, 1) := dk_46 (dk_at dksX5_isHidden_1 17 rfl rfl)
theorem dX5_isHidden_42 : decode cX5_isHidden 42 = .ok (.ifCond .le 68, 3) := dk_158 0 68 (dk_at dksX5_isHidden_1 18 rfl rfl)
theorem dX5_isHidden_45 : decode cX5_isHidden 45 = .ok (.aload_n 0, 1) := dk_42 (dk_at dksX5_isHidden_1 21 rfl rfl)
theorem dX5_isHidden_46 : decode cX5_isHidden 46 = .ok (.getfield 33, 3) := dk_180 0 33 (dk_at dksX5_isHidden_2 0 rfl rfl)
theorem dX5_isHidden_49 : decode cX5_isHidden 49 = .ok (.bipush 16, 2) := dk_16 16 (dk_at dksX5_isHidden_2 3 rfl rfl)
theorem dX5_isHidden_51 : decode cX5_isHidden 51 = .ok (.iload_n 2, 1) := dk_28 (dk_at dksX5_isHidden_2 5 rfl rfl)
theorem dX5_isHidden_52 : decode cX5_isHidden 52 = .ok (.iadd, 1) := dk_96 (dk_at dksX5_isHidden_2 6 rfl rfl)
theorem dX5_isHidden_53 : decode cX5_isHidden 53 = .ok (.iaload, 1) := dk_46 (dk_at dksX5_isHidden_2 7 rfl rfl)
theorem dX5_isHidden_54 : decode cX5_isHidden 54 = .ok (.iconst 2, 1) := dk_5 (dk_at dksX5_isHidden_2 8 rfl rfl)
theorem dX5_isHidden_55 : decode cX5_isHidden 55 = .ok (.if_icmp .ne 55, 3) := dk_160 0 55 (dk_at dksX5_isHidden_2 9 rfl rfl)
theorem dX5_isHidden_58 : decode cX5_isHidden 58 = .ok (.aload_n 0, 1) := dk_42 (dk_at dksX5_isHidden_2 12 rfl rfl)
theorem dX5_isHidden_59 : decode cX5_isHidden 59 = .ok (.getfield 33, 3) := dk_180 0 33 (dk_at dksX5_isHidden_2 13 rfl rfl)
theorem dX5_isHidden_62 : decode cX5_isHidden 62 = .ok (.bipush 8, 2) := dk_16 8 (dk_at dksX5_isHidden_2 16 rfl rfl)
theorem dX5_isHidden_64 : decode cX5_isHidden 64 = .ok (.iload_n 2, 1) := dk_28 (dk_at dksX5_isHidden_2 18 rfl rfl)
theorem dX5_isHidden_65 : decode cX5_isHidden 65 = .ok (.iadd, 1) := dk_96 (dk_at dksX5_isHidden_2 19 rfl rfl)
theorem dX5_isHidden_66 : decode cX5_isHidden 66 = .ok (.iaload, 1) := dk_46 (dk_at dksX5_isHidden_2 20 rfl rfl)
theorem dX5_isHidden_67 : decode cX5_isHidden 67 = .ok (.ifCond .ne 43, 3) := dk_154 0 43 (dk_at dksX5_isHidden_2 21 rfl rfl)
theorem dX5_isHidden_70 : decode cX5_isHidden 70 = .ok (.aload_n 0, 1) := dk_42 (dk_at dksX5_isHidden_3 0 rfl rfl)
theorem dX5_isHidden_71 : decode cX5_isHidden 71 = .ok (.getfield 33, 3) := dk_180 0 33 (dk_at dksX5_isHidden_3 1 rfl rfl)
theorem dX5_isHidden_74 : decode cX5_isHidden 74 = .ok (.iconst 0, 1) := dk_3 (dk_at dksX5_isHidden_3 4 rfl rfl)
theorem dX5_isHidden_75 : decode cX5_isHidden 75 = .ok (.iload_n 2, 1) := dk_28 (dk_at dksX5_isHidden_3 5 rfl rfl)
theorem dX5_isHidden_76 : decode cX5_isHidden 76 = .ok (.iadd, 1) := dk_96 (dk_at dksX5_isHidden_3 6 rfl rfl)
theorem dX5_isHidden_77 : decode cX5_isHidden 77 = .ok (.iaload, 1) := dk_46 (dk_at dksX5_isHidden_3 7 rfl rfl)
theorem dX5_isHidden_78 : decode cX5_isHidden 78 = .ok (.i2l, 1) := dk_133 (dk_at dksX5_isHidden_3 8 rfl rfl)
theorem dX5_isHidden_79 : decode cX5_isHidden 79 = .ok (.lconst 1, 1) := dk_10 (dk_at dksX5_isHidden_3 9 rfl rfl)
theorem dX5_isHidden_80 : decode cX5_isHidden 80 = .ok (.ldc2_w 213, 3) := dk_20 0 213 (dk_at dksX5_isHidden_3 10 rfl rfl)
theorem dX5_isHidden_83 : decode cX5_isHidden 83 = .ok (.invokestatic 152, 3) := dk_184 0 152 (dk_at dksX5_isHidden_3 13 rfl rfl)
theorem dX5_isHidden_86 : decode cX5_isHidden 86 = .ok (.ifCond .eq 24, 3) := dk_153 0 24 (dk_at dksX5_isHidden_3 16 rfl rfl)
theorem dX5_isHidden_89 : decode cX5_isHidden 89 = .ok (.aload_n 0, 1) := dk_42 (dk_at dksX5_isHidden_3 19 rfl rfl)
theorem dX5_isHidden_90 : decode cX5_isHidden 90 = .ok (.getfield 33, 3) := dk_180 0 33 (dk_at dksX5_isHidden_3 20 rfl rfl)
theorem dX5_isHidden_93 : decode cX5_isHidden 93 = .ok (.iconst 0, 1) := dk_3 (dk_at dksX5_isHidden_3 23 rfl rfl)
theorem dX5_isHidden_94 : decode cX5_isHidden 94 = .ok (.iload_n 2, 1) := dk_28 (dk_at dksX5_isHidden_4 0 rfl rfl)
theorem dX5_isHidden_95 : decode cX5_isHidden 95 = .ok (.iadd, 1) := dk_96 (dk_at dksX5_isHidden_4 1 rfl rfl)
theorem dX5_isHidden_96 : decode cX5_isHidden 96 = .ok (.iaload, 1) := dk_46 (dk_at dksX5_isHidden_4 2 rfl rfl)
theorem dX5_isHidden_97 : decode cX5_isHidden 97 = .ok (.aload_n 0, 1) := dk_42 (dk_at dksX5_isHidden_4 3 rfl rfl)
theorem dX5_isHidden_98 : decode cX5_isHidden 98 = .ok (.getfield 33, 3) := dk_180 0 33 (dk_at dksX5_isHidden_4 4 rfl rfl)
theorem dX5_isHidden_101 : decode cX5_isHidden 101 = .ok (.iconst 0, 1) := dk_3 (dk_at dksX5_isHidden_4 7 rfl rfl)
theorem dX5_isHidden_102 : decode cX5_isHidden 102 = .ok (.iload_n 1, 1) := dk_27 (dk_at dksX5_isHidden_4 8 rfl rfl)
theorem dX5_isHidden_103 : decode cX5_isHidden 103 = .ok (.iadd, 1) := dk_96 (dk_at dksX5_isHidden_4 9 rfl rfl)
theorem dX5_isHidden_104 : decode cX5_isHidden 104 = .ok (.iaload, 1) := dk_46 (dk_at dksX5_isHidden_4 10 rfl rfl)
theorem dX5_isHidden_105 : decode cX5_isHidden 105 = .ok (.if_icmp .ge 5, 3) := dk_162 0 5 (dk_at dksX5_isHidden_4 11 rfl rfl)
theorem dX5_isHidden_108 : decode cX5_isHidden 108 = .ok (.iconst 1, 1) := dk_4 (dk_at dksX5_isHidden_4 14 rfl rfl)
theorem dX5_isHidden_109 : decode cX5_isHidden 109 = .ok (.ireturn, 1) := dk_172 (dk_at dksX5_isHidden_4 15 rfl rfl)
theorem dX5_isHidden_110 : decode cX5_isHidden 110 = .ok (.iinc 2 1, 3) := dk_132 2 1 (dk_at dksX5_isHidden_4 16 rfl rfl)
theorem dX5_isHidden_113 : decode cX5_isHidden 113 = .ok (.goto (-111), 3) := dk_167 255 145 (dk_at dksX5_isHidden_4 19 rfl rfl)
theorem dX5_isHidden_116 : decode cX5_isHidden 116 = .ok (.iconst 0, 1) := dk_3 (dk_at dksX5_isHidden_4 22 rfl rfl)
theorem dX5_isHidden_117 : decode cX5_isHidden 117 = .ok (.ireturn, 1) := dk_172 (dk_at dksX5_isHidden_4 23 rfl rfl)
abbrev cX5_carsGo : ByteArray := prog_21_method_46_code
def yX5_carsGo : MethodName := ⟨RX5, "carsGo", "()V"⟩
def dkwX5_carsGo_8 : List UInt8 := [153, 0, 7, 4, 167, 0, 4, 3, 79, 132, 1, 1, 167, 255, 224, 177]
abbrev dktX5_carsGo_8 : List UInt8 := dkwX5_carsGo_8 ++ []
def dkwX5_carsGo_7 : List UInt8 := [3, 60, 27, 16, 8, 162, 0, 32, 42, 180, 0, 33, 16, 24, 27, 96, 42, 180, 0, 51, 27, 51]
abbrev dktX5_carsGo_7 : List UInt8 := dkwX5_carsGo_7 ++ dktX5_carsGo_8
def dkwX5_carsGo_6 : List UInt8 := [4, 167, 0, 4, 3, 61, 28, 153, 0, 8, 42, 29, 182, 1, 3, 167, 255, 147, 132, 1, 1, 167, 255, 129]
abbrev dktX5_carsGo_6 : List UInt8 := dkwX5_carsGo_6 ++ dktX5_carsGo_7
def dkwX5_carsGo_5 : List UInt8 := [180, 0, 33, 3, 29, 96, 46, 162, 0, 6, 21, 4, 62, 132, 4, 1, 167, 255, 179, 29, 2, 159, 0, 7]
abbrev dktX5_carsGo_5 : List UInt8 := dkwX5_carsGo_5 ++ dktX5_carsGo_6
def dkwX5_carsGo_4 : List UInt8 := [21, 4, 96, 46, 158, 0, 31, 29, 2, 159, 0, 23, 42, 180, 0, 33, 3, 21, 4, 96, 46, 42]
abbrev dktX5_carsGo_4 : List UInt8 := dkwX5_carsGo_4 ++ dktX5_carsGo_5
def dkwX5_carsGo_3 : List UInt8 := [21, 4, 96, 46, 27, 160, 0, 53, 42, 180, 0, 48, 21, 4, 51, 154, 0, 43, 42, 180, 0, 33, 3]
abbrev dktX5_carsGo_3 : List UInt8 := dkwX5_carsGo_3 ++ dktX5_carsGo_4
def dkwX5_carsGo_2 : List UInt8 := [153, 0, 111, 2, 62, 3, 54, 4, 21, 4, 42, 180, 0, 17, 4, 46, 162, 0, 72, 42, 180, 0, 17, 5]
abbrev dktX5_carsGo_2 : List UInt8 := dkwX5_carsGo_2 ++ dktX5_carsGo_3
def dkwX5_carsGo_1 : List UInt8 := [27, 3, 84, 132, 1, 1, 167, 255, 233, 3, 60, 27, 42, 180, 0, 17, 3, 46, 162, 0, 123, 4, 61, 28]
abbrev dktX5_carsGo_1 : List UInt8 := dkwX5_carsGo_1 ++ dktX5_carsGo_2
def dkwX5_carsGo_0 : List UInt8 := [42, 2, 181, 1, 0, 3, 60, 27, 16, 8, 162, 0, 23, 42, 180, 0, 48, 27, 3, 84, 42, 180, 0, 51]
abbrev dktX5_carsGo_0 : List UInt8 := dkwX5_carsGo_0 ++ dktX5_carsGo_1
theorem dksX5_carsGo_0 : cX5_carsGo.data.toList.drop 0 = dktX5_carsGo_0 := by decide +kernel
theorem dksX5_carsGo_1 : cX5_carsGo.data.toList.drop 24 = dktX5_carsGo_1 := dk_seg dksX5_carsGo_0 24 rfl rfl
theorem dksX5_carsGo_2 : cX5_carsGo.data.toList.drop 48 = dktX5_carsGo_2 := dk_seg dksX5_carsGo_1 24 rfl rfl
theorem dksX5_carsGo_3 : cX5_carsGo.data.toList.drop 72 = dktX5_carsGo_3 := dk_seg dksX5_carsGo_2 24 rfl rfl
theorem dksX5_carsGo_4 : cX5_carsGo.data.toList.drop 95 = dktX5_carsGo_4 := dk_seg dksX5_carsGo_3 23 rfl rfl
theorem dksX5_carsGo_5 : cX5_carsGo.data.toList.drop 117 = dktX5_carsGo_5 := dk_seg dksX5_carsGo_4 22 rfl rfl
theorem dksX5_carsGo_6 : cX5_carsGo.data.toList.drop 141 = dktX5_carsGo_6 := dk_seg dksX5_carsGo_5 24 rfl rfl
theorem dksX5_carsGo_7 : cX5_carsGo.data.toList.drop 165 = dktX5_carsGo_7 := dk_seg dksX5_carsGo_6 24 rfl rfl
theorem dksX5_carsGo_8 : cX5_carsGo.data.toList.drop 187 = dktX5_carsGo_8 := dk_seg dksX5_carsGo_7 22 rfl rfl
theorem dX5_carsGo_0 : decode cX5_carsGo 0 = .ok (.aload_n 0, 1) := dk_42 (dk_at dksX5_carsGo_0 0 rfl rfl)
theorem dX5_carsGo_1 : decode cX5_carsGo 1 = .ok (.iconst (-1), 1) := dk_2 (dk_at dksX5_carsGo_0 1 rfl rfl)
theorem dX5_carsGo_2 : decode cX5_carsGo 2 = .ok (.putfield 256, 3) := dk_181 1 0 (dk_at dksX5_carsGo_0 2 rfl rfl)
theorem dX5_carsGo_5 : decode cX5_carsGo 5 = .ok (.iconst 0, 1) := dk_3 (dk_at dksX5_carsGo_0 5 rfl rfl)
theorem dX5_carsGo_6 : decode cX5_carsGo 6 = .ok (.istore_n 1, 1) := dk_60 (dk_at dksX5_carsGo_0 6 rfl rfl)
theorem dX5_carsGo_7 : decode cX5_carsGo 7 = .ok (.iload_n 1, 1) := dk_27 (dk_at dksX5_carsGo_0 7 rfl rfl)
theorem dX5_carsGo_8 : decode cX5_carsGo 8 = .ok (.bipush 8, 2) := dk_16 8 (dk_at dksX5_carsGo_0 8 rfl rfl)
theorem dX5_carsGo_10 : decode cX5_carsGo 10 = .ok (.if_icmp .ge 23, 3) := dk_162 0 23 (dk_at dksX5_carsGo_0 10 rfl rfl)
theorem dX5_carsGo_13 : decode cX5_carsGo 13 = .ok (.aload_n 0, 1) := dk_42 (dk_at dksX5_carsGo_0 13 rfl rfl)
theorem dX5_carsGo_14 : decode cX5_carsGo 14 = .ok (.getfield 48, 3) := dk_180 0 48 (dk_at dksX5_carsGo_0 14 rfl rfl)
theorem dX5_carsGo_17 : decode cX5_carsGo 17 = .ok (.iload_n 1, 1) := dk_27 (dk_at dksX5_carsGo_0 17 rfl rfl)
theorem dX5_carsGo_18 : decode cX5_carsGo 18 = .ok (.iconst 0, 1) := dk_3 (dk_at dksX5_carsGo_0 18 rfl rfl)
theorem dX5_carsGo_19 : decode cX5_carsGo 19 = .ok (.bastore, 1) := dk_84 (dk_at dksX5_carsGo_0 19 rfl rfl)
theorem dX5_carsGo_20 : decode cX5_carsGo 20 = .ok (.aload_n 0, 1) := dk_42 (dk_at dksX5_carsGo_0 20 rfl rfl)
theorem dX5_carsGo_21 : decode cX5_carsGo 21 = .ok (.getfield 51, 3) := dk_180 0 51 (dk_at dksX5_carsGo_0 21 rfl rfl)
theorem dX5_carsGo_24 : decode cX5_carsGo 24 = .ok (.iload_n 1, 1) := dk_27 (dk_at dksX5_carsGo_1 0 rfl rfl)
theorem dX5_carsGo_25 : decode cX5_carsGo 25 = .ok (.iconst 0, 1) := dk_3 (dk_at dksX5_carsGo_1 1 rfl rfl)
theorem dX5_carsGo_26 : decode cX5_carsGo 26 = .ok (.bastore, 1) := dk_84 (dk_at dksX5_carsGo_1 2 rfl rfl)
theorem dX5_carsGo_27 : decode cX5_carsGo 27 = .ok (.iinc 1 1, 3) := dk_132 1 1 (dk_at dksX5_carsGo_1 3 rfl rfl)
theorem dX5_carsGo_30 : decode cX5_carsGo 30 = .ok (.goto (-23), 3) := dk_167 255 233 (dk_at dksX5_carsGo_1 6 rfl rfl)
theorem dX5_carsGo_33 : decode cX5_carsGo 33 = .ok (.iconst 0, 1) := dk_3 (dk_at dksX5_carsGo_1 9 rfl rfl)
theorem dX5_carsGo_34 : decode cX5_carsGo 34 = .ok (.istore_n 1, 1) := dk_60 (dk_at dksX5_carsGo_1 10 rfl rfl)
theorem dX5_carsGo_35 : decode cX5_carsGo 35 = .ok (.iload_n 1, 1) := dk_27 (dk_at dksX5_carsGo_1 11 rfl rfl)
theorem dX5_carsGo_36 : decode cX5_carsGo 36 = .ok (.aload_n 0, 1) := dk_42 (dk_at dksX5_carsGo_1 12 rfl rfl)
theorem dX5_carsGo_37 : decode cX5_carsGo 37 = .ok (.getfield 17, 3) := dk_180 0 17 (dk_at dksX5_carsGo_1 13 rfl rfl)
theorem dX5_carsGo_40 : decode cX5_carsGo 40 = .ok (.iconst 0, 1) := dk_3 (dk_at dksX5_carsGo_1 16 rfl rfl)
theorem dX5_carsGo_41 : decode cX5_carsGo 41 = .ok (.iaload, 1) := dk_46 (dk_at dksX5_carsGo_1 17 rfl rfl)
theorem dX5_carsGo_42 : decode cX5_carsGo 42 = .ok (.if_icmp .ge 123, 3) := dk_162 0 123 (dk_at dksX5_carsGo_1 18 rfl rfl)
theorem dX5_carsGo_45 : decode cX5_carsGo 45 = .ok (.iconst 1, 1) := dk_4 (dk_at dksX5_carsGo_1 21 rfl rfl)
theorem dX5_carsGo_46 : decode cX5_carsGo 46 = .ok (.istore_n 2, 1) := dk_61 (dk_at dksX5_carsGo_1 22 rfl rfl)
theorem dX5_carsGo_47 : decode cX5_carsGo 47 = .ok (.iload_n 2, 1) := dk_28 (dk_at dksX5_carsGo_1 23 rfl rfl)
theorem dX5_carsGo_48 : decode cX5_carsGo 48 = .ok (.ifCond .eq 111, 3) := dk_153 0 111 (dk_at dksX5_carsGo_2 0 rfl rfl)
theorem dX5_carsGo_51 : decode cX5_carsGo 51 = .ok (.iconst (-1), 1) := dk_2 (dk_at dksX5_carsGo_2 3 rfl rfl)
theorem dX5_carsGo_52 : decode cX5_carsGo 52 = .ok (.istore_n 3, 1) := dk_62 (dk_at dksX5_carsGo_2 4 rfl rfl)
theorem dX5_carsGo_53 : decode cX5_carsGo 53 = .ok (.iconst 0, 1) := dk_3 (dk_at dksX5_carsGo_2 5 rfl rfl)
theorem dX5_carsGo_54 : decode cX5_carsGo 54 = .ok (.istore 4, 2) := dk_54 4 (dk_at dksX5_carsGo_2 6 rfl rfl)
theorem dX5_carsGo_56 : decode cX5_carsGo 56 = .ok (.iload 4, 2) := dk_21 4 (dk_at dksX5_carsGo_2 8 rfl rfl)
theorem dX5_carsGo_58 : decode cX5_carsGo 58 = .ok (.aload_n 0, 1) := dk_42 (dk_at dksX5_carsGo_2 10 rfl rfl)
theorem dX5_carsGo_59 : decode cX5_carsGo 59 = .ok (.getfield 17, 3) := dk_180 0 17 (dk_at dksX5_carsGo_2 11 rfl rfl)
theorem dX5_carsGo_62 : decode cX5_carsGo 62 = .ok (.iconst 1, 1) := dk_4 (dk_at dksX5_carsGo_2 14 rfl rfl)
theorem dX5_carsGo_63 : decode cX5_carsGo 63 = .ok (.iaload, 1) := dk_46 (dk_at dksX5_carsGo_2 15 rfl rfl)
theorem dX5_carsGo_64 : decode cX5_carsGo 64 = .ok (.if_icmp .ge 72, 3) := dk_162 0 72 (dk_at dksX5_carsGo_2 16 rfl rfl)
theorem dX5_carsGo_67 : decode cX5_carsGo 67 = .ok (.aload_n 0, 1) := dk_42 (dk_at dksX5_carsGo_2 19 rfl rfl)
theorem dX5_carsGo_68 : decode cX5_carsGo 68 = .ok (.getfield 17, 3) := dk_180 0 17 (dk_at dksX5_carsGo_2 20 rfl rfl)
theorem dX5_carsGo_71 : decode cX5_carsGo 71 = .ok (.iconst 2, 1) := dk_5 (dk_at dksX5_carsGo_2 23 rfl rfl)
theorem dX5_carsGo_72 : decode cX5_carsGo 72 = .ok (.iload 4, 2) := dk_21 4 (dk_at dksX5_carsGo_3 0 rfl rfl)
theorem dX5_carsGo_74 : decode cX5_carsGo 74 = .ok (.iadd, 1) := dk_96 (dk_at dksX5_carsGo_3 2 rfl rfl)
theorem dX5_carsGo_75 : decode cX5_carsGo 75 = .ok (.iaload, 1) := dk_46 (dk_at dksX5_carsGo_3 3 rfl rfl)
theorem dX5_carsGo_76 : decode cX5_carsGo 76 = .ok (.iload_n 1, 1) := dk_27 (dk_at dksX5_carsGo_3 4 rfl rfl)
theorem dX5_carsGo_77 : decode cX5_carsGo 77 = .ok (.if_icmp .ne 53, 3) := dk_160 0 53 (dk_at dksX5_carsGo_3 5 rfl rfl)
theorem dX5_carsGo_80 : decode cX5_carsGo 80 = .ok (.aload_n 0, 1) := dk_42 (dk_at dksX5_carsGo_3 8 rfl rfl)
theorem dX5_carsGo_81 : decode cX5_carsGo 81 = .ok (.getfield 48, 3) := dk_180 0 48 (dk_at dksX5_carsGo_3 9 rfl rfl)
theorem dX5_carsGo_84 : decode cX5_carsGo 84 = .ok (.iload 4, 2) := dk_21 4 (dk_at dksX5_carsGo_3 12 rfl rfl)
theorem dX5_carsGo_86 : decode cX5_carsGo 86 = .ok (.baload, 1) := dk_51 (dk_at dksX5_carsGo_3 14 rfl rfl)
theorem dX5_carsGo_87 : decode cX5_carsGo 87 = .ok (.ifCond .ne 43, 3) := dk_154 0 43 (dk_at dksX5_carsGo_3 15 rfl rfl)
theorem dX5_carsGo_90 : decode cX5_carsGo 90 = .ok (.aload_n 0, 1) := dk_42 (dk_at dksX5_carsGo_3 18 rfl rfl)
theorem dX5_carsGo_91 : decode cX5_carsGo 91 = .ok (.getfield 33, 3) := dk_180 0 33 (dk_at dksX5_carsGo_3 19 rfl rfl)
theorem dX5_carsGo_94 : decode cX5_carsGo 94 = .ok (.iconst 0, 1) := dk_3 (dk_at dksX5_carsGo_3 22 rfl rfl)
theorem dX5_carsGo_95 : decode cX5_carsGo 95 = .ok (.iload 4, 2) := dk_21 4 (dk_at dksX5_carsGo_4 0 rfl rfl)
theorem dX5_carsGo_97 : decode cX5_carsGo 97 = .ok (.iadd, 1) := dk_96 (dk_at dksX5_carsGo_4 2 rfl rfl)
theorem dX5_carsGo_98 : decode cX5_carsGo 98 = .ok (.iaload, 1) := dk_46 (dk_at dksX5_carsGo_4 3 rfl rfl)
theorem dX5_carsGo_99 : decode cX5_carsGo 99 = .ok (.ifCond .le 31, 3) := dk_158 0 31 (dk_at dksX5_carsGo_4 4 rfl rfl)
theorem dX5_carsGo_102 : decode cX5_carsGo 102 = .ok (.iload_n 3, 1) := dk_29 (dk_at dksX5_carsGo_4 7 rfl rfl)
theorem dX5_carsGo_103 : decode cX5_carsGo 103 = .ok (.iconst (-1), 1) := dk_2 (dk_at dksX5_carsGo_4 8 rfl rfl)
theorem dX5_carsGo_104 : decode cX5_carsGo 104 = .ok (.if_icmp .eq 23, 3) := dk_159 0 23 (dk_at dksX5_carsGo_4 9 rfl rfl)
theorem dX5_carsGo_107 : decode cX5_carsGo 107 = .ok (.aload_n 0, 1) := dk_42 (dk_at dksX5_carsGo_4 12 rfl rfl)
theorem dX5_carsGo_108 : decode cX5_carsGo 108 = .ok (.getfield 33, 3) := dk_180 0 33 (dk_at dksX5_carsGo_4 13 rfl rfl)
theorem dX5_carsGo_111 : decode cX5_carsGo 111 = .ok (.iconst 0, 1) := dk_3 (dk_at dksX5_carsGo_4 16 rfl rfl)
theorem dX5_carsGo_112 : decode cX5_carsGo 112 = .ok (.iload 4, 2) := dk_21 4 (dk_at dksX5_carsGo_4 17 rfl rfl)
theorem dX5_carsGo_114 : decode cX5_carsGo 114 = .ok (.iadd, 1) := dk_96 (dk_at dksX5_carsGo_4 19 rfl rfl)
theorem dX5_carsGo_115 : decode cX5_carsGo 115 = .ok (.iaload, 1) := dk_46 (dk_at dksX5_carsGo_4 20 rfl rfl)
theorem dX5_carsGo_116 : decode cX5_carsGo 116 = .ok (.aload_n 0, 1) := dk_42 (dk_at dksX5_carsGo_4 21 rfl rfl)
theorem dX5_carsGo_117 : decode cX5_carsGo 117 = .ok (.getfield 33, 3) := dk_180 0 33 (dk_at dksX5_carsGo_5 0 rfl rfl)
theorem dX5_carsGo_120 : decode cX5_carsGo 120 = .ok (.iconst 0, 1) := dk_3 (dk_at dksX5_carsGo_5 3 rfl rfl)
theorem dX5_carsGo_121 : decode cX5_carsGo 121 = .ok (.iload_n 3, 1) := dk_29 (dk_at dksX5_carsGo_5 4 rfl rfl)
theorem dX5_carsGo_122 : decode cX5_carsGo 122 = .ok (.iadd, 1) := dk_96 (dk_at dksX5_carsGo_5 5 rfl rfl)
theorem dX5_carsGo_123 : decode cX5_carsGo 123 = .ok (.iaload, 1) := dk_46 (dk_at dksX5_carsGo_5 6 rfl rfl)
theorem dX5_carsGo_124 : decode cX5_carsGo 124 = .ok (.if_icmp .ge 6, 3) := dk_162 0 6 (dk_at dksX5_carsGo_5 7 rfl rfl)
theorem dX5_carsGo_127 : decode cX5_carsGo 127 = .ok (.iload 4, 2) := dk_21 4 (dk_at dksX5_carsGo_5 10 rfl rfl)
theorem dX5_carsGo_129 : decode cX5_carsGo 129 = .ok (.istore_n 3, 1) := dk_62 (dk_at dksX5_carsGo_5 12 rfl rfl)
theorem dX5_carsGo_130 : decode cX5_carsGo 130 = .ok (.iinc 4 1, 3) := dk_132 4 1 (dk_at dksX5_carsGo_5 13 rfl rfl)
theorem dX5_carsGo_133 : decode cX5_carsGo 133 = .ok (.goto (-77), 3) := dk_167 255 179 (dk_at dksX5_carsGo_5 16 rfl rfl)
theorem dX5_carsGo_136 : decode cX5_carsGo 136 = .ok (.iload_n 3, 1) := dk_29 (dk_at dksX5_carsGo_5 19 rfl rfl)
theorem dX5_carsGo_137 : decode cX5_carsGo 137 = .ok (.iconst (-1), 1) := dk_2 (dk_at dksX5_carsGo_5 20 rfl rfl)
theorem dX5_carsGo_138 : decode cX5_carsGo 138 = .ok (.if_icmp .eq 7, 3) := dk_159 0 7 (dk_at dksX5_carsGo_5 21 rfl rfl)
theorem dX5_carsGo_141 : decode cX5_carsGo 141 = .ok (.iconst 1, 1) := dk_4 (dk_at dksX5_carsGo_6 0 rfl rfl)
theorem dX5_carsGo_142 : decode cX5_carsGo 142 = .ok (.goto 4, 3) := dk_167 0 4 (dk_at dksX5_carsGo_6 1 rfl rfl)
theorem dX5_carsGo_145 : decode cX5_carsGo 145 = .ok (.iconst 0, 1) := dk_3 (dk_at dksX5_carsGo_6 4 rfl rfl)
theorem dX5_carsGo_146 : decode cX5_carsGo 146 = .ok (.istore_n 2, 1) := dk_61 (dk_at dksX5_carsGo_6 5 rfl rfl)
theorem dX5_carsGo_147 : decode cX5_carsGo 147 = .ok (.iload_n 2, 1) := dk_28 (dk_at dksX5_carsGo_6 6 rfl rfl)
theorem dX5_carsGo_148 : decode cX5_carsGo 148 = .ok (.ifCond .eq 8, 3) := dk_153 0 8 (dk_at dksX5_carsGo_6 7 rfl rfl)
theorem dX5_carsGo_151 : decode cX5_carsGo 151 = .ok (.aload_n 0, 1) := dk_42 (dk_at dksX5_carsGo_6 10 rfl rfl)
theorem dX5_carsGo_152 : decode cX5_carsGo 152 = .ok (.iload_n 3, 1) := dk_29 (dk_at dksX5_carsGo_6 11 rfl rfl)
theorem dX5_carsGo_153 : decode cX5_carsGo 153 = .ok (.invokevirtual 259, 3) := dk_182 1 3 (dk_at dksX5_carsGo_6 12 rfl rfl)
theorem dX5_carsGo_156 : decode cX5_carsGo 156 = .ok (.goto (-109), 3) := dk_167 255 147 (dk_at dksX5_carsGo_6 15 rfl rfl)
theorem dX5_carsGo_159 : decode cX5_carsGo 159 = .ok (.iinc 1 1, 3) := dk_132 1 1 (dk_at dksX5_carsGo_6 18 rfl rfl)
theorem dX5_carsGo_162 : decode cX5_carsGo 162 = .ok (.goto (-127), 3) := dk_167 255 129 (dk_at dksX5_carsGo_6 21 rfl rfl)
theorem dX5_carsGo_165 : decode cX5_carsGo 165 = .ok (.iconst 0, 1) := dk_3 (dk_at dksX5_carsGo_7 0 rfl rfl)
theorem dX5_carsGo_166 : decode cX5_carsGo 166 = .ok (.istore_n 1, 1) := dk_60 (dk_at dksX5_carsGo_7 1 rfl rfl)
theorem dX5_carsGo_167 : decode cX5_carsGo 167 = .ok (.iload_n 1, 1) := dk_27 (dk_at dksX5_carsGo_7 2 rfl rfl)
theorem dX5_carsGo_168 : decode cX5_carsGo 168 = .ok (.bipush 8, 2) := dk_16 8 (dk_at dksX5_carsGo_7 3 rfl rfl)
theorem dX5_carsGo_170 : decode cX5_carsGo 170 = .ok (.if_icmp .ge 32, 3) := dk_162 0 32 (dk_at dksX5_carsGo_7 5 rfl rfl)
theorem dX5_carsGo_173 : decode cX5_carsGo 173 = .ok (.aload_n 0, 1) := dk_42 (dk_at dksX5_carsGo_7 8 rfl rfl)
theorem dX5_carsGo_174 : decode cX5_carsGo 174 = .ok (.getfield 33, 3) := dk_180 0 33 (dk_at dksX5_carsGo_7 9 rfl rfl)
theorem dX5_carsGo_177 : decode cX5_carsGo 177 = .ok (.bipush 24, 2) := dk_16 24 (dk_at dksX5_carsGo_7 12 rfl rfl)
theorem dX5_carsGo_179 : decode cX5_carsGo 179 = .ok (.iload_n 1, 1) := dk_27 (dk_at dksX5_carsGo_7 14 rfl rfl)
theorem dX5_carsGo_180 : decode cX5_carsGo 180 = .ok (.iadd, 1) := dk_96 (dk_at dksX5_carsGo_7 15 rfl rfl)
theorem dX5_carsGo_181 : decode cX5_carsGo 181 = .ok (.aload_n 0, 1) := dk_42 (dk_at dksX5_carsGo_7 16 rfl rfl)
theorem dX5_carsGo_182 : decode cX5_carsGo 182 = .ok (.getfield 51, 3) := dk_180 0 51 (dk_at dksX5_carsGo_7 17 rfl rfl)
theorem dX5_carsGo_185 : decode cX5_carsGo 185 = .ok (.iload_n 1, 1) := dk_27 (dk_at dksX5_carsGo_7 20 rfl rfl)
theorem dX5_carsGo_186 : decode cX5_carsGo 186 = .ok (.baload, 1) := dk_51 (dk_at dksX5_carsGo_7 21 rfl rfl)
theorem dX5_carsGo_187 : decode cX5_carsGo 187 = .ok (.ifCond .eq 7, 3) := dk_153 0 7 (dk_at dksX5_carsGo_8 0 rfl rfl)
theorem dX5_carsGo_190 : decode cX5_carsGo 190 = .ok (.iconst 1, 1) := dk_4 (dk_at dksX5_carsGo_8 3 rfl rfl)
theorem dX5_carsGo_191 : decode cX5_carsGo 191 = .ok (.goto 4, 3) := dk_167 0 4 (dk_at dksX5_carsGo_8 4 rfl rfl)
theorem dX5_carsGo_194 : decode cX5_carsGo 194 = .ok (.iconst 0, 1) := dk_3 (dk_at dksX5_carsGo_8 7 rfl rfl)
theorem dX5_carsGo_195 : decode cX5_carsGo 195 = .ok (.iastore, 1) := dk_79 (dk_at dksX5_carsGo_8 8 rfl rfl)
theorem dX5_carsGo_196 : decode cX5_carsGo 196 = .ok (.iinc 1 1, 3) := dk_132 1 1 (dk_at dksX5_carsGo_8 9 rfl rfl)
theorem dX5_carsGo_199 : decode cX5_carsGo 199 = .ok (.goto (-32), 3) := dk_167 255 224 (dk_at dksX5_carsGo_8 12 rfl rfl)
theorem dX5_carsGo_202 : decode cX5_carsGo 202 = .ok (.return_, 1) := dk_177 (dk_at dksX5_carsGo_8 15 rfl rfl)
abbrev cX5_goesOn : ByteArray := prog_21_method_45_code
def yX5_goesOn : MethodName := ⟨RX5, "goesOn", "(I)V"⟩
def dkwX5_goesOn_14 : List UInt8 := [159, 0, 11, 27, 42, 180, 1, 0, 162, 0, 8, 42, 27, 181, 1, 0, 177]
abbrev dktX5_goesOn_14 : List UInt8 := dkwX5_goesOn_14 ++ []
def dkwX5_goesOn_13 : List UInt8 := [42, 180, 0, 17, 5, 27, 96, 46, 42, 180, 0, 33, 16, 32, 46, 160, 0, 24, 42, 180, 1, 0, 2]
abbrev dktX5_goesOn_13 : List UInt8 := dkwX5_goesOn_13 ++ dktX5_goesOn_14
def dkwX5_goesOn_12 : List UInt8 := [4, 84, 42, 180, 0, 33, 3, 27, 96, 46, 157, 0, 53, 42, 180, 0, 33, 16, 33, 46, 4, 160, 0, 42]
abbrev dktX5_goesOn_12 : List UInt8 := dkwX5_goesOn_12 ++ dktX5_goesOn_13
def dkwX5_goesOn_11 : List UInt8 := [180, 0, 33, 3, 27, 96, 21, 5, 29, 164, 0, 8, 21, 5, 167, 0, 4, 29, 79, 42, 180, 0, 48, 27]
abbrev dktX5_goesOn_11 : List UInt8 := dkwX5_goesOn_11 ++ dktX5_goesOn_12
def dkwX5_goesOn_10 : List UInt8 := [21, 5, 54, 5, 42, 180, 0, 51, 27, 21, 5, 29, 164, 0, 7, 4, 167, 0, 4, 3, 84, 42]
abbrev dktX5_goesOn_10 : List UInt8 := dkwX5_goesOn_10 ++ dktX5_goesOn_11
def dkwX5_goesOn_9 : List UInt8 := [160, 0, 7, 29, 167, 0, 7, 21, 4, 5, 96, 54, 5, 21, 5, 28, 164, 0, 7, 28, 167, 0, 5]
abbrev dktX5_goesOn_9 : List UInt8 := dkwX5_goesOn_9 ++ dktX5_goesOn_10
def dkwX5_goesOn_8 : List UInt8 := [164, 0, 14, 42, 180, 0, 33, 3, 21, 5, 96, 46, 54, 4, 132, 5, 1, 167, 255, 151, 21, 4, 2]
abbrev dktX5_goesOn_8 : List UInt8 := dkwX5_goesOn_8 ++ dktX5_goesOn_9
def dkwX5_goesOn_7 : List UInt8 := [159, 0, 13, 42, 180, 0, 51, 21, 5, 51, 153, 0, 28, 42, 180, 0, 33, 3, 21, 5, 96, 46, 21, 4]
abbrev dktX5_goesOn_7 : List UInt8 := dkwX5_goesOn_7 ++ dktX5_goesOn_8
def dkwX5_goesOn_6 : List UInt8 := [42, 180, 0, 33, 3, 21, 5, 96, 46, 158, 0, 52, 42, 180, 0, 33, 16, 16, 21, 5, 96, 46, 5]
abbrev dktX5_goesOn_6 : List UInt8 := dkwX5_goesOn_6 ++ dktX5_goesOn_7
def dkwX5_goesOn_5 : List UInt8 := [51, 153, 0, 84, 42, 180, 0, 17, 5, 21, 5, 96, 46, 42, 180, 0, 17, 5, 27, 96, 46, 160, 0, 64]
abbrev dktX5_goesOn_5 : List UInt8 := dkwX5_goesOn_5 ++ dktX5_goesOn_6
def dkwX5_goesOn_4 : List UInt8 := [62, 2, 54, 4, 3, 54, 5, 21, 5, 42, 180, 0, 17, 4, 46, 162, 0, 100, 42, 180, 0, 48, 21, 5]
abbrev dktX5_goesOn_4 : List UInt8 := dkwX5_goesOn_4 ++ dktX5_goesOn_5
def dkwX5_goesOn_3 : List UInt8 := [180, 0, 33, 16, 8, 27, 96, 46, 100, 79, 167, 0, 196, 28, 42, 180, 0, 33, 16, 8, 27, 96, 46, 100]
abbrev dktX5_goesOn_3 : List UInt8 := dkwX5_goesOn_3 ++ dktX5_goesOn_4
def dkwX5_goesOn_2 : List UInt8 := [16, 8, 27, 96, 46, 4, 100, 167, 0, 4, 3, 79, 42, 180, 0, 33, 3, 27, 96, 92, 46, 42]
abbrev dktX5_goesOn_2 : List UInt8 := dkwX5_goesOn_2 ++ dktX5_goesOn_3
def dkwX5_goesOn_1 : List UInt8 := [180, 0, 33, 16, 8, 27, 96, 42, 180, 0, 33, 16, 8, 27, 96, 46, 158, 0, 17, 42, 180, 0, 33]
abbrev dktX5_goesOn_1 : List UInt8 := dkwX5_goesOn_1 ++ dktX5_goesOn_2
def dkwX5_goesOn_0 : List UInt8 := [42, 180, 0, 33, 3, 27, 96, 46, 61, 42, 180, 0, 33, 16, 16, 27, 96, 46, 5, 160, 0, 62, 42]
abbrev dktX5_goesOn_0 : List UInt8 := dkwX5_goesOn_0 ++ dktX5_goesOn_1
theorem dksX5_goesOn_0 : cX5_goesOn.data.toList.drop 0 = dktX5_goesOn_0 := by decide +kernel
theorem dksX5_goesOn_1 : cX5_goesOn.data.toList.drop 23 = dktX5_goesOn_1 := dk_seg dksX5_goesOn_0 23 rfl rfl
theorem dksX5_goesOn_2 : cX5_goesOn.data.toList.drop 46 = dktX5_goesOn_2 := dk_seg dksX5_goesOn_1 23 rfl rfl
theorem dksX5_goesOn_3 : cX5_goesOn.data.toList.drop 68 = dktX5_goesOn_3 := dk_seg dksX5_goesOn_2 22 rfl rfl
theorem dksX5_goesOn_4 : cX5_goesOn.data.toList.drop 92 = dktX5_goesOn_4 := dk_seg dksX5_goesOn_3 24 rfl rfl
theorem dksX5_goesOn_5 : cX5_goesOn.data.toList.drop 116 = dktX5_goesOn_5 := dk_seg dksX5_goesOn_4 24 rfl rfl
theorem dksX5_goesOn_6 : cX5_goesOn.data.toList.drop 140 = dktX5_goesOn_6 := dk_seg dksX5_goesOn_5 24 rfl rfl
theorem dksX5_goesOn_7 : cX5_goesOn.data.toList.drop 163 = dktX5_goesOn_7 := dk_seg dksX5_goesOn_6 23 rfl rfl
theorem dksX5_goesOn_8 : cX5_goesOn.data.toList.drop 187 = dktX5_goesOn_8 := dk_seg dksX5_goesOn_7 24 rfl rfl
theorem dksX5_goesOn_9 : cX5_goesOn.data.toList.drop 210 = dktX5_goesOn_9 := dk_seg dksX5_goesOn_8 23 rfl rfl
theorem dksX5_goesOn_10 : cX5_goesOn.data.toList.drop 233 = dktX5_goesOn_10 := dk_seg dksX5_goesOn_9 23 rfl rfl
theorem dksX5_goesOn_11 : cX5_goesOn.data.toList.drop 255 = dktX5_goesOn_11 := dk_seg dksX5_goesOn_10 22 rfl rfl
theorem dksX5_goesOn_12 : cX5_goesOn.data.toList.drop 279 = dktX5_goesOn_12 := dk_seg dksX5_goesOn_11 24 rfl rfl
theorem dksX5_goesOn_13 : cX5_goesOn.data.toList.drop 303 = dktX5_goesOn_13 := dk_seg dksX5_goesOn_12 24 rfl rfl
theorem dksX5_goesOn_14 : cX5_goesOn.data.toList.drop 326 = dktX5_goesOn_14 := dk_seg dksX5_goesOn_13 23 rfl rfl
theorem dX5_goesOn_0 : decode cX5_goesOn 0 = .ok (.aload_n 0, 1) := dk_42 (dk_at dksX5_goesOn_0 0 rfl rfl)
theorem dX5_goesOn_1 : decode cX5_goesOn 1 = .ok (.getfield 33, 3) := dk_180 0 33 (dk_at dksX5_goesOn_0 1 rfl rfl)
theorem dX5_goesOn_4 : decode cX5_goesOn 4 = .ok (.iconst 0, 1) := dk_3 (dk_at dksX5_goesOn_0 4 rfl rfl)
theorem dX5_goesOn_5 : decode cX5_goesOn 5 = .ok (.iload_n 1, 1) := dk_27 (dk_at dksX5_goesOn_0 5 rfl rfl)
theorem dX5_goesOn_6 : decode cX5_goesOn 6 = .ok (.iadd, 1) := dk_96 (dk_at dksX5_goesOn_0 6 rfl rfl)
theorem dX5_goesOn_7 : decode cX5_goesOn 7 = .ok (.iaload, 1) := dk_46 (dk_at dksX5_goesOn_0 7 rfl rfl)
theorem dX5_goesOn_8 : decode cX5_goesOn 8 = .ok (.istore_n 2, 1) := dk_61 (dk_at dksX5_goesOn_0 8 rfl rfl)
theorem dX5_goesOn_9 : decode cX5_goesOn 9 = .ok (.aload_n 0, 1) := dk_42 (dk_at dksX5_goesOn_0 9 rfl rfl)
theorem dX5_goesOn_10 : decode cX5_goesOn 10 = .ok (.getfield 33, 3) := dk_180 0 33 (dk_at dksX5_goesOn_0 10 rfl rfl)
theorem dX5_goesOn_13 : decode cX5_goesOn 13 = .ok (.bipush 16, 2) := dk_16 16 (dk_at dksX5_goesOn_0 13 rfl rfl)
theorem dX5_goesOn_15 : decode cX5_goesOn 15 = .ok (.iload_n 1, 1) := dk_27 (dk_at dksX5_goesOn_0 15 rfl rfl)
theorem dX5_goesOn_16 : decode cX5_goesOn 16 = .ok (.iadd, 1) := dk_96 (dk_at dksX5_goesOn_0 16 rfl rfl)
theorem dX5_goesOn_17 : decode cX5_goesOn 17 = .ok (.iaload, 1) := dk_46 (dk_at dksX5_goesOn_0 17 rfl rfl)
theorem dX5_goesOn_18 : decode cX5_goesOn 18 = .ok (.iconst 2, 1) := dk_5 (dk_at dksX5_goesOn_0 18 rfl rfl)
theorem dX5_goesOn_19 : decode cX5_goesOn 19 = .ok (.if_icmp .ne 62, 3) := dk_160 0 62 (dk_at dksX5_goesOn_0 19 rfl rfl)
theorem dX5_goesOn_22 : decode cX5_goesOn 22 = .ok (.aload_n 0, 1) := dk_42 (dk_at dksX5_goesOn_0 22 rfl rfl)
theorem dX5_goesOn_23 : decode cX5_goesOn 23 = .ok (.getfield 33, 3) := dk_180 0 33 (dk_at dksX5_goesOn_1 0 rfl rfl)
theorem dX5_goesOn_26 : decode cX5_goesOn 26 = .ok (.bipush 8, 2) := dk_16 8 (dk_at dksX5_goesOn_1 3 rfl rfl)
theorem dX5_goesOn_28 : decode cX5_goesOn 28 = .ok (.iload_n 1, 1) := dk_27 (dk_at dksX5_goesOn_1 5 rfl rfl)
theorem dX5_goesOn_29 : decode cX5_goesOn 29 = .ok (.iadd, 1) := dk_96 (dk_at dksX5_goesOn_1 6 rfl rfl)
theorem dX5_goesOn_30 : decode cX5_goesOn 30 = .ok (.aload_n 0, 1) := dk_42 (dk_at dksX5_goesOn_1 7 rfl rfl)
theorem dX5_goesOn_31 : decode cX5_goesOn 31 = .ok (.getfield 33, 3) := dk_180 0 33 (dk_at dksX5_goesOn_1 8 rfl rfl)
theorem dX5_goesOn_34 : decode cX5_goesOn 34 = .ok (.bipush 8, 2) := dk_16 8 (dk_at dksX5_goesOn_1 11 rfl rfl)
theorem dX5_goesOn_36 : decode cX5_goesOn 36 = .ok (.iload_n 1, 1) := dk_27 (dk_at dksX5_goesOn_1 13 rfl rfl)
theorem dX5_goesOn_37 : decode cX5_goesOn 37 = .ok (.iadd, 1) := dk_96 (dk_at dksX5_goesOn_1 14 rfl rfl)
theorem dX5_goesOn_38 : decode cX5_goesOn 38 = .ok (.iaload, 1) := dk_46 (dk_at dksX5_goesOn_1 15 rfl rfl)
theorem dX5_goesOn_39 : decode cX5_goesOn 39 = .ok (.ifCond .le 17, 3) := dk_158 0 17 (dk_at dksX5_goesOn_1 16 rfl rfl)
theorem dX5_goesOn_42 : decode cX5_goesOn 42 = .ok (.aload_n 0, 1) := dk_42 (dk_at dksX5_goesOn_1 19 rfl rfl)
theorem dX5_goesOn_43 : decode cX5_goesOn 43 = .ok (.getfield 33, 3) := dk_180 0 33 (dk_at dksX5_goesOn_1 20 rfl rfl)
theorem dX5_goesOn_46 : decode cX5_goesOn 46 = .ok (.bipush 8, 2) := dk_16 8 (dk_at dksX5_goesOn_2 0 rfl rfl)
theorem dX5_goesOn_48 : decode cX5_goesOn 48 = .ok (.iload_n 1, 1) := dk_27 (dk_at dksX5_goesOn_2 2 rfl rfl)
theorem dX5_goesOn_49 : decode cX5_goesOn 49 = .ok (.iadd, 1) := dk_96 (dk_at dksX5_goesOn_2 3 rfl rfl)
theorem dX5_goesOn_50 : decode cX5_goesOn 50 = .ok (.iaload, 1) := dk_46 (dk_at dksX5_goesOn_2 4 rfl rfl)
theorem dX5_goesOn_51 : decode cX5_goesOn 51 = .ok (.iconst 1, 1) := dk_4 (dk_at dksX5_goesOn_2 5 rfl rfl)
theorem dX5_goesOn_52 : decode cX5_goesOn 52 = .ok (.isub, 1) := dk_100 (dk_at dksX5_goesOn_2 6 rfl rfl)
theorem dX5_goesOn_53 : decode cX5_goesOn 53 = .ok (.goto 4, 3) := dk_167 0 4 (dk_at dksX5_goesOn_2 7 rfl rfl)
theorem dX5_goesOn_56 : decode cX5_goesOn 56 = .ok (.iconst 0, 1) := dk_3 (dk_at dksX5_goesOn_2 10 rfl rfl)
theorem dX5_goesOn_57 : decode cX5_goesOn 57 = .ok (.iastore, 1) := dk_79 (dk_at dksX5_goesOn_2 11 rfl rfl)
theorem dX5_goesOn_58 : decode cX5_goesOn 58 = .ok (.aload_n 0, 1) := dk_42 (dk_at dksX5_goesOn_2 12 rfl rfl)
theorem dX5_goesOn_59 : decode cX5_goesOn 59 = .ok (.getfield 33, 3) := dk_180 0 33 (dk_at dksX5_goesOn_2 13 rfl rfl)
theorem dX5_goesOn_62 : decode cX5_goesOn 62 = .ok (.iconst 0, 1) := dk_3 (dk_at dksX5_goesOn_2 16 rfl rfl)
theorem dX5_goesOn_63 : decode cX5_goesOn 63 = .ok (.iload_n 1, 1) := dk_27 (dk_at dksX5_goesOn_2 17 rfl rfl)
theorem dX5_goesOn_64 : decode cX5_goesOn 64 = .ok (.iadd, 1) := dk_96 (dk_at dksX5_goesOn_2 18 rfl rfl)
theorem dX5_goesOn_65 : decode cX5_goesOn 65 = .ok (.dup2, 1) := dk_92 (dk_at dksX5_goesOn_2 19 rfl rfl)
theorem dX5_goesOn_66 : decode cX5_goesOn 66 = .ok (.iaload, 1) := dk_46 (dk_at dksX5_goesOn_2 20 rfl rfl)
theorem dX5_goesOn_67 : decode cX5_goesOn 67 = .ok (.aload_n 0, 1) := dk_42 (dk_at dksX5_goesOn_2 21 rfl rfl)
theorem dX5_goesOn_68 : decode cX5_goesOn 68 = .ok (.getfield 33, 3) := dk_180 0 33 (dk_at dksX5_goesOn_3 0 rfl rfl)
theorem dX5_goesOn_71 : decode cX5_goesOn 71 = .ok (.bipush 8, 2) := dk_16 8 (dk_at dksX5_goesOn_3 3 rfl rfl)
theorem dX5_goesOn_73 : decode cX5_goesOn 73 = .ok (.iload_n 1, 1) := dk_27 (dk_at dksX5_goesOn_3 5 rfl rfl)
theorem dX5_goesOn_74 : decode cX5_goesOn 74 = .ok (.iadd, 1) := dk_96 (dk_at dksX5_goesOn_3 6 rfl rfl)
theorem dX5_goesOn_75 : decode cX5_goesOn 75 = .ok (.iaload, 1) := dk_46 (dk_at dksX5_goesOn_3 7 rfl rfl)
theorem dX5_goesOn_76 : decode cX5_goesOn 76 = .ok (.isub, 1) := dk_100 (dk_at dksX5_goesOn_3 8 rfl rfl)
theorem dX5_goesOn_77 : decode cX5_goesOn 77 = .ok (.iastore, 1) := dk_79 (dk_at dksX5_goesOn_3 9 rfl rfl)
theorem dX5_goesOn_78 : decode cX5_goesOn 78 = .ok (.goto 196, 3) := dk_167 0 196 (dk_at dksX5_goesOn_3 10 rfl rfl)
theorem dX5_goesOn_81 : decode cX5_goesOn 81 = .ok (.iload_n 2, 1) := dk_28 (dk_at dksX5_goesOn_3 13 rfl rfl)
theorem dX5_goesOn_82 : decode cX5_goesOn 82 = .ok (.aload_n 0, 1) := dk_42 (dk_at dksX5_goesOn_3 14 rfl rfl)
theorem dX5_goesOn_83 : decode cX5_goesOn 83 = .ok (.getfield 33, 3) := dk_180 0 33 (dk_at dksX5_goesOn_3 15 rfl rfl)
theorem dX5_goesOn_86 : decode cX5_goesOn 86 = .ok (.bipush 8, 2) := dk_16 8 (dk_at dksX5_goesOn_3 18 rfl rfl)
theorem dX5_goesOn_88 : decode cX5_goesOn 88 = .ok (.iload_n 1, 1) := dk_27 (dk_at dksX5_goesOn_3 20 rfl rfl)
theorem dX5_goesOn_89 : decode cX5_goesOn 89 = .ok (.iadd, 1) := dk_96 (dk_at dksX5_goesOn_3 21 rfl rfl)
theorem dX5_goesOn_90 : decode cX5_goesOn 90 = .ok (.iaload, 1) := dk_46 (dk_at dksX5_goesOn_3 22 rfl rfl)
theorem dX5_goesOn_91 : decode cX5_goesOn 91 = .ok (.isub, 1) := dk_100 (dk_at dksX5_goesOn_3 23 rfl rfl)
theorem dX5_goesOn_92 : decode cX5_goesOn 92 = .ok (.istore_n 3, 1) := dk_62 (dk_at dksX5_goesOn_4 0 rfl rfl)
theorem dX5_goesOn_93 : decode cX5_goesOn 93 = .ok (.iconst (-1), 1) := dk_2 (dk_at dksX5_goesOn_4 1 rfl rfl)
theorem dX5_goesOn_94 : decode cX5_goesOn 94 = .ok (.istore 4, 2) := dk_54 4 (dk_at dksX5_goesOn_4 2 rfl rfl)
theorem dX5_goesOn_96 : decode cX5_goesOn 96 = .ok (.iconst 0, 1) := dk_3 (dk_at dksX5_goesOn_4 4 rfl rfl)
theorem dX5_goesOn_97 : decode cX5_goesOn 97 = .ok (.istore 5, 2) := dk_54 5 (dk_at dksX5_goesOn_4 5 rfl rfl)
theorem dX5_goesOn_99 : decode cX5_goesOn 99 = .ok (.iload 5, 2) := dk_21 5 (dk_at dksX5_goesOn_4 7 rfl rfl)
theorem dX5_goesOn_101 : decode cX5_goesOn 101 = .ok (.aload_n 0, 1) := dk_42 (dk_at dksX5_goesOn_4 9 rfl rfl)
theorem dX5_goesOn_102 : decode cX5_goesOn 102 = .ok (.getfield 17, 3) := dk_180 0 17 (dk_at dksX5_goesOn_4 10 rfl rfl)
theorem dX5_goesOn_105 : decode cX5_goesOn 105 = .ok (.iconst 1, 1) := dk_4 (dk_at dksX5_goesOn_4 13 rfl rfl)
theorem dX5_goesOn_106 : decode cX5_goesOn 106 = .ok (.iaload, 1) := dk_46 (dk_at dksX5_goesOn_4 14 rfl rfl)
theorem dX5_goesOn_107 : decode cX5_goesOn 107 = .ok (.if_icmp .ge 100, 3) := dk_162 0 100 (dk_at dksX5_goesOn_4 15 rfl rfl)
theorem dX5_goesOn_110 : decode cX5_goesOn 110 = .ok (.aload_n 0, 1) := dk_42 (dk_at dksX5_goesOn_4 18 rfl rfl)
theorem dX5_goesOn_111 : decode cX5_goesOn 111 = .ok (.getfield 48, 3) := dk_180 0 48 (dk_at dksX5_goesOn_4 19 rfl rfl)
theorem dX5_goesOn_114 : decode cX5_goesOn 114 = .ok (.iload 5, 2) := dk_21 5 (dk_at dksX5_goesOn_4 22 rfl rfl)
theorem dX5_goesOn_116 : decode cX5_goesOn 116 = .ok (.baload, 1) := dk_51 (dk_at dksX5_goesOn_5 0 rfl rfl)
theorem dX5_goesOn_117 : decode cX5_goesOn 117 = .ok (.ifCond .eq 84, 3) := dk_153 0 84 (dk_at dksX5_goesOn_5 1 rfl rfl)
theorem dX5_goesOn_120 : decode cX5_goesOn 120 = .ok (.aload_n 0, 1) := dk_42 (dk_at dksX5_goesOn_5 4 rfl rfl)
theorem dX5_goesOn_121 : decode cX5_goesOn 121 = .ok (.getfield 17, 3) := dk_180 0 17 (dk_at dksX5_goesOn_5 5 rfl rfl)
theorem dX5_goesOn_124 : decode cX5_goesOn 124 = .ok (.iconst 2, 1) := dk_5 (dk_at dksX5_goesOn_5 8 rfl rfl)
theorem dX5_goesOn_125 : decode cX5_goesOn 125 = .ok (.iload 5, 2) := dk_21 5 (dk_at dksX5_goesOn_5 9 rfl rfl)
theorem dX5_goesOn_127 : decode cX5_goesOn 127 = .ok (.iadd, 1) := dk_96 (dk_at dksX5_goesOn_5 11 rfl rfl)
theorem dX5_goesOn_128 : decode cX5_goesOn 128 = .ok (.iaload, 1) := dk_46 (dk_at dksX5_goesOn_5 12 rfl rfl)
theorem dX5_goesOn_129 : decode cX5_goesOn 129 = .ok (.aload_n 0, 1) := dk_42 (dk_at dksX5_goesOn_5 13 rfl rfl)
theorem dX5_goesOn_130 : decode cX5_goesOn 130 = .ok (.getfield 17, 3) := dk_180 0 17 (dk_at dksX5_goesOn_5 14 rfl rfl)
theorem dX5_goesOn_133 : decode cX5_goesOn 133 = .ok (.iconst 2, 1) := dk_5 (dk_at dksX5_goesOn_5 17 rfl rfl)
theorem dX5_goesOn_134 : decode cX5_goesOn 134 = .ok (.iload_n 1, 1) := dk_27 (dk_at dksX5_goesOn_5 18 rfl rfl)
theorem dX5_goesOn_135 : decode cX5_goesOn 135 = .ok (.iadd, 1) := dk_96 (dk_at dksX5_goesOn_5 19 rfl rfl)
theorem dX5_goesOn_136 : decode cX5_goesOn 136 = .ok (.iaload, 1) := dk_46 (dk_at dksX5_goesOn_5 20 rfl rfl)
theorem dX5_goesOn_137 : decode cX5_goesOn 137 = .ok (.if_icmp .ne 64, 3) := dk_160 0 64 (dk_at dksX5_goesOn_5 21 rfl rfl)
theorem dX5_goesOn_140 : decode cX5_goesOn 140 = .ok (.aload_n 0, 1) := dk_42 (dk_at dksX5_goesOn_6 0 rfl rfl)
theorem dX5_goesOn_141 : decode cX5_goesOn 141 = .ok (.getfield 33, 3) := dk_180 0 33 (dk_at dksX5_goesOn_6 1 rfl rfl)
theorem dX5_goesOn_144 : decode cX5_goesOn 144 = .ok (.iconst 0, 1) := dk_3 (dk_at dksX5_goesOn_6 4 rfl rfl)
theorem dX5_goesOn_145 : decode cX5_goesOn 145 = .ok (.iload 5, 2) := dk_21 5 (dk_at dksX5_goesOn_6 5 rfl rfl)
theorem dX5_goesOn_147 : decode cX5_goesOn 147 = .ok (.iadd, 1) := dk_96 (dk_at dksX5_goesOn_6 7 rfl rfl)
theorem dX5_goesOn_148 : decode cX5_goesOn 148 = .ok (.iaload, 1) := dk_46 (dk_at dksX5_goesOn_6 8 rfl rfl)
theorem dX5_goesOn_149 : decode cX5_goesOn 149 = .ok (.ifCond .le 52, 3) := dk_158 0 52 (dk_at dksX5_goesOn_6 9 rfl rfl)
theorem dX5_goesOn_152 : decode cX5_goesOn 152 = .ok (.aload_n 0, 1) := dk_42 (dk_at dksX5_goesOn_6 12 rfl rfl)
theorem dX5_goesOn_153 : decode cX5_goesOn 153 = .ok (.getfield 33, 3) := dk_180 0 33 (dk_at dksX5_goesOn_6 13 rfl rfl)
theorem dX5_goesOn_156 : decode cX5_goesOn 156 = .ok (.bipush 16, 2) := dk_16 16 (dk_at dksX5_goesOn_6 16 rfl rfl)
theorem dX5_goesOn_158 : decode cX5_goesOn 158 = .ok (.iload 5, 2) := dk_21 5 (dk_at dksX5_goesOn_6 18 rfl rfl)
theorem dX5_goesOn_160 : decode cX5_goesOn 160 = .ok (.iadd, 1) := dk_96 (dk_at dksX5_goesOn_6 20 rfl rfl)
theorem dX5_goesOn_161 : decode cX5_goesOn 161 = .ok (.iaload, 1) := dk_46 (dk_at dksX5_goesOn_6 21 rfl rfl)
theorem dX5_goesOn_162 : decode cX5_goesOn 162 = .ok (.iconst 2, 1) := dk_5 (dk_at dksX5_goesOn_6 22 rfl rfl)
theorem dX5_goesOn_163 : decode cX5_goesOn 163 = .ok (.if_icmp .eq 13, 3) := dk_159 0 13 (dk_at dksX5_goesOn_7 0 rfl rfl)
theorem dX5_goesOn_166 : decode cX5_goesOn 166 = .ok (.aload_n 0, 1) := dk_42 (dk_at dksX5_goesOn_7 3 rfl rfl)
theorem dX5_goesOn_167 : decode cX5_goesOn 167 = .ok (.getfield 51, 3) := dk_180 0 51 (dk_at dksX5_goesOn_7 4 rfl rfl)
theorem dX5_goesOn_170 : decode cX5_goesOn 170 = .ok (.iload 5, 2) := dk_21 5 (dk_at dksX5_goesOn_7 7 rfl rfl)
theorem dX5_goesOn_172 : decode cX5_goesOn 172 = .ok (.baload, 1) := dk_51 (dk_at dksX5_goesOn_7 9 rfl rfl)
theorem dX5_goesOn_173 : decode cX5_goesOn 173 = .ok (.ifCond .eq 28, 3) := dk_153 0 28 (dk_at dksX5_goesOn_7 10 rfl rfl)
theorem dX5_goesOn_176 : decode cX5_goesOn 176 = .ok (.aload_n 0, 1) := dk_42 (dk_at dksX5_goesOn_7 13 rfl rfl)
theorem dX5_goesOn_177 : decode cX5_goesOn 177 = .ok (.getfield 33, 3) := dk_180 0 33 (dk_at dksX5_goesOn_7 14 rfl rfl)
theorem dX5_goesOn_180 : decode cX5_goesOn 180 = .ok (.iconst 0, 1) := dk_3 (dk_at dksX5_goesOn_7 17 rfl rfl)
theorem dX5_goesOn_181 : decode cX5_goesOn 181 = .ok (.iload 5, 2) := dk_21 5 (dk_at dksX5_goesOn_7 18 rfl rfl)
theorem dX5_goesOn_183 : decode cX5_goesOn 183 = .ok (.iadd, 1) := dk_96 (dk_at dksX5_goesOn_7 20 rfl rfl)
theorem dX5_goesOn_184 : decode cX5_goesOn 184 = .ok (.iaload, 1) := dk_46 (dk_at dksX5_goesOn_7 21 rfl rfl)
theorem dX5_goesOn_185 : decode cX5_goesOn 185 = .ok (.iload 4, 2) := dk_21 4 (dk_at dksX5_goesOn_7 22 rfl rfl)
theorem dX5_goesOn_187 : decode cX5_goesOn 187 = .ok (.if_icmp .le 14, 3) := dk_164 0 14 (dk_at dksX5_goesOn_8 0 rfl rfl)
theorem dX5_goesOn_190 : decode cX5_goesOn 190 = .ok (.aload_n 0, 1) := dk_42 (dk_at dksX5_goesOn_8 3 rfl rfl)
theorem dX5_goesOn_191 : decode cX5_goesOn 191 = .ok (.getfield 33, 3) := dk_180 0 33 (dk_at dksX5_goesOn_8 4 rfl rfl)
theorem dX5_goesOn_194 : decode cX5_goesOn 194 = .ok (.iconst 0, 1) := dk_3 (dk_at dksX5_goesOn_8 7 rfl rfl)
theorem dX5_goesOn_195 : decode cX5_goesOn 195 = .ok (.iload 5, 2) := dk_21 5 (dk_at dksX5_goesOn_8 8 rfl rfl)
theorem dX5_goesOn_197 : decode cX5_goesOn 197 = .ok (.iadd, 1) := dk_96 (dk_at dksX5_goesOn_8 10 rfl rfl)
theorem dX5_goesOn_198 : decode cX5_goesOn 198 = .ok (.iaload, 1) := dk_46 (dk_at dksX5_goesOn_8 11 rfl rfl)
theorem dX5_goesOn_199 : decode cX5_goesOn 199 = .ok (.istore 4, 2) := dk_54 4 (dk_at dksX5_goesOn_8 12 rfl rfl)
theorem dX5_goesOn_201 : decode cX5_goesOn 201 = .ok (.iinc 5 1, 3) := dk_132 5 1 (dk_at dksX5_goesOn_8 14 rfl rfl)
theorem dX5_goesOn_204 : decode cX5_goesOn 204 = .ok (.goto (-105), 3) := dk_167 255 151 (dk_at dksX5_goesOn_8 17 rfl rfl)
theorem dX5_goesOn_207 : decode cX5_goesOn 207 = .ok (.iload 4, 2) := dk_21 4 (dk_at dksX5_goesOn_8 20 rfl rfl)
theorem dX5_goesOn_209 : decode cX5_goesOn 209 = .ok (.iconst (-1), 1) := dk_2 (dk_at dksX5_goesOn_8 22 rfl rfl)
theorem dX5_goesOn_210 : decode cX5_goesOn 210 = .ok (.if_icmp .ne 7, 3) := dk_160 0 7 (dk_at dksX5_goesOn_9 0 rfl rfl)
theorem dX5_goesOn_213 : decode cX5_goesOn 213 = .ok (.iload_n 3, 1) := dk_29 (dk_at dksX5_goesOn_9 3 rfl rfl)
theorem dX5_goesOn_214 : decode cX5_goesOn 214 = .ok (.goto 7, 3) := dk_167 0 7 (dk_at dksX5_goesOn_9 4 rfl rfl)
theorem dX5_goesOn_217 : decode cX5_goesOn 217 = .ok (.iload 4, 2) := dk_21 4 (dk_at dksX5_goesOn_9 7 rfl rfl)
theorem dX5_goesOn_219 : decode cX5_goesOn 219 = .ok (.iconst 2, 1) := dk_5 (dk_at dksX5_goesOn_9 9 rfl rfl)
theorem dX5_goesOn_220 : decode cX5_goesOn 220 = .ok (.iadd, 1) := dk_96 (dk_at dksX5_goesOn_9 10 rfl rfl)
theorem dX5_goesOn_221 : decode cX5_goesOn 221 = .ok (.istore 5, 2) := dk_54 5 (dk_at dksX5_goesOn_9 11 rfl rfl)
theorem dX5_goesOn_223 : decode cX5_goesOn 223 = .ok (.iload 5, 2) := dk_21 5 (dk_at dksX5_goesOn_9 13 rfl rfl)
theorem dX5_goesOn_225 : decode cX5_goesOn 225 = .ok (.iload_n 2, 1) := dk_28 (dk_at dksX5_goesOn_9 15 rfl rfl)
theorem dX5_goesOn_226 : decode cX5_goesOn 226 = .ok (.if_icmp .le 7, 3) := dk_164 0 7 (dk_at dksX5_goesOn_9 16 rfl rfl)
theorem dX5_goesOn_229 : decode cX5_goesOn 229 = .ok (.iload_n 2, 1) := dk_28 (dk_at dksX5_goesOn_9 19 rfl rfl)
theorem dX5_goesOn_230 : decode cX5_goesOn 230 = .ok (.goto 5, 3) := dk_167 0 5 (dk_at dksX5_goesOn_9 20 rfl rfl)
theorem dX5_goesOn_233 : decode cX5_goesOn 233 = .ok (.iload 5, 2) := dk_21 5 (dk_at dksX5_goesOn_10 0 rfl rfl)
theorem dX5_goesOn_235 : decode cX5_goesOn 235 = .ok (.istore 5, 2) := dk_54 5 (dk_at dksX5_goesOn_10 2 rfl rfl)
theorem dX5_goesOn_237 : decode cX5_goesOn 237 = .ok (.aload_n 0, 1) := dk_42 (dk_at dksX5_goesOn_10 4 rfl rfl)
theorem dX5_goesOn_238 : decode cX5_goesOn 238 = .ok (.getfield 51, 3) := dk_180 0 51 (dk_at dksX5_goesOn_10 5 rfl rfl)
theorem dX5_goesOn_241 : decode cX5_goesOn 241 = .ok (.iload_n 1, 1) := dk_27 (dk_at dksX5_goesOn_10 8 rfl rfl)
theorem dX5_goesOn_242 : decode cX5_goesOn 242 = .ok (.iload 5, 2) := dk_21 5 (dk_at dksX5_goesOn_10 9 rfl rfl)
theorem dX5_goesOn_244 : decode cX5_goesOn 244 = .ok (.iload_n 3, 1) := dk_29 (dk_at dksX5_goesOn_10 11 rfl rfl)
theorem dX5_goesOn_245 : decode cX5_goesOn 245 = .ok (.if_icmp .le 7, 3) := dk_164 0 7 (dk_at dksX5_goesOn_10 12 rfl rfl)
theorem dX5_goesOn_248 : decode cX5_goesOn 248 = .ok (.iconst 1, 1) := dk_4 (dk_at dksX5_goesOn_10 15 rfl rfl)
theorem dX5_goesOn_249 : decode cX5_goesOn 249 = .ok (.goto 4, 3) := dk_167 0 4 (dk_at dksX5_goesOn_10 16 rfl rfl)
theorem dX5_goesOn_252 : decode cX5_goesOn 252 = .ok (.iconst 0, 1) := dk_3 (dk_at dksX5_goesOn_10 19 rfl rfl)
theorem dX5_goesOn_253 : decode cX5_goesOn 253 = .ok (.bastore, 1) := dk_84 (dk_at dksX5_goesOn_10 20 rfl rfl)
theorem dX5_goesOn_254 : decode cX5_goesOn 254 = .ok (.aload_n 0, 1) := dk_42 (dk_at dksX5_goesOn_10 21 rfl rfl)
theorem dX5_goesOn_255 : decode cX5_goesOn 255 = .ok (.getfield 33, 3) := dk_180 0 33 (dk_at dksX5_goesOn_11 0 rfl rfl)
theorem dX5_goesOn_258 : decode cX5_goesOn 258 = .ok (.iconst 0, 1) := dk_3 (dk_at dksX5_goesOn_11 3 rfl rfl)
theorem dX5_goesOn_259 : decode cX5_goesOn 259 = .ok (.iload_n 1, 1) := dk_27 (dk_at dksX5_goesOn_11 4 rfl rfl)
theorem dX5_goesOn_260 : decode cX5_goesOn 260 = .ok (.iadd, 1) := dk_96 (dk_at dksX5_goesOn_11 5 rfl rfl)
theorem dX5_goesOn_261 : decode cX5_goesOn 261 = .ok (.iload 5, 2) := dk_21 5 (dk_at dksX5_goesOn_11 6 rfl rfl)
theorem dX5_goesOn_263 : decode cX5_goesOn 263 = .ok (.iload_n 3, 1) := dk_29 (dk_at dksX5_goesOn_11 8 rfl rfl)
theorem dX5_goesOn_264 : decode cX5_goesOn 264 = .ok (.if_icmp .le 8, 3) := dk_164 0 8 (dk_at dksX5_goesOn_11 9 rfl rfl)
theorem dX5_goesOn_267 : decode cX5_goesOn 267 = .ok (.iload 5, 2) := dk_21 5 (dk_at dksX5_goesOn_11 12 rfl rfl)
theorem dX5_goesOn_269 : decode cX5_goesOn 269 = .ok (.goto 4, 3) := dk_167 0 4 (dk_at dksX5_goesOn_11 14 rfl rfl)
theorem dX5_goesOn_272 : decode cX5_goesOn 272 = .ok (.iload_n 3, 1) := dk_29 (dk_at dksX5_goesOn_11 17 rfl rfl)
theorem dX5_goesOn_273 : decode cX5_goesOn 273 = .ok (.iastore, 1) := dk_79 (dk_at dksX5_goesOn_11 18 rfl rfl)
theorem dX5_goesOn_274 : decode cX5_goesOn 274 = .ok (.aload_n 0, 1) := dk_42 (dk_at dksX5_goesOn_11 19 rfl rfl)
theorem dX5_goesOn_275 : decode cX5_goesOn 275 = .ok (.getfield 48, 3) := dk_180 0 48 (dk_at dksX5_goesOn_11 20 rfl rfl)
theorem dX5_goesOn_278 : decode cX5_goesOn 278 = .ok (.iload_n 1, 1) := dk_27 (dk_at dksX5_goesOn_11 23 rfl rfl)
theorem dX5_goesOn_279 : decode cX5_goesOn 279 = .ok (.iconst 1, 1) := dk_4 (dk_at dksX5_goesOn_12 0 rfl rfl)
theorem dX5_goesOn_280 : decode cX5_goesOn 280 = .ok (.bastore, 1) := dk_84 (dk_at dksX5_goesOn_12 1 rfl rfl)
theorem dX5_goesOn_281 : decode cX5_goesOn 281 = .ok (.aload_n 0, 1) := dk_42 (dk_at dksX5_goesOn_12 2 rfl rfl)
theorem dX5_goesOn_282 : decode cX5_goesOn 282 = .ok (.getfield 33, 3) := dk_180 0 33 (dk_at dksX5_goesOn_12 3 rfl rfl)
theorem dX5_goesOn_285 : decode cX5_goesOn 285 = .ok (.iconst 0, 1) := dk_3 (dk_at dksX5_goesOn_12 6 rfl rfl)
theorem dX5_goesOn_286 : decode cX5_goesOn 286 = .ok (.iload_n 1, 1) := dk_27 (dk_at dksX5_goesOn_12 7 rfl rfl)
theorem dX5_goesOn_287 : decode cX5_goesOn 287 = .ok (.iadd, 1) := dk_96 (dk_at dksX5_goesOn_12 8 rfl rfl)
theorem dX5_goesOn_288 : decode cX5_goesOn 288 = .ok (.iaload, 1) := dk_46 (dk_at dksX5_goesOn_12 9 rfl rfl)
theorem dX5_goesOn_289 : decode cX5_goesOn 289 = .ok (.ifCond .gt 53, 3) := dk_157 0 53 (dk_at dksX5_goesOn_12 10 rfl rfl)
theorem dX5_goesOn_292 : decode cX5_goesOn 292 = .ok (.aload_n 0, 1) := dk_42 (dk_at dksX5_goesOn_12 13 rfl rfl)
theorem dX5_goesOn_293 : decode cX5_goesOn 293 = .ok (.getfield 33, 3) := dk_180 0 33 (dk_at dksX5_goesOn_12 14 rfl rfl)
theorem dX5_goesOn_296 : decode cX5_goesOn 296 = .ok (.bipush 33, 2) := dk_16 33 (dk_at dksX5_goesOn_12 17 rfl rfl)
theorem dX5_goesOn_298 : decode cX5_goesOn 298 = .ok (.iaload, 1) := dk_46 (dk_at dksX5_goesOn_12 19 rfl rfl)
theorem dX5_goesOn_299 : decode cX5_goesOn 299 = .ok (.iconst 1, 1) := dk_4 (dk_at dksX5_goesOn_12 20 rfl rfl)
theorem dX5_goesOn_300 : decode cX5_goesOn 300 = .ok (.if_icmp .ne 42, 3) := dk_160 0 42 (dk_at dksX5_goesOn_12 21 rfl rfl)
theorem dX5_goesOn_303 : decode cX5_goesOn 303 = .ok (.aload_n 0, 1) := dk_42 (dk_at dksX5_goesOn_13 0 rfl rfl)
theorem dX5_goesOn_304 : decode cX5_goesOn 304 = .ok (.getfield 17, 3) := dk_180 0 17 (dk_at dksX5_goesOn_13 1 rfl rfl)
theorem dX5_goesOn_307 : decode cX5_goesOn 307 = .ok (.iconst 2, 1) := dk_5 (dk_at dksX5_goesOn_13 4 rfl rfl)
theorem dX5_goesOn_308 : decode cX5_goesOn 308 = .ok (.iload_n 1, 1) := dk_27 (dk_at dksX5_goesOn_13 5 rfl rfl)
theorem dX5_goesOn_309 : decode cX5_goesOn 309 = .ok (.iadd, 1) := dk_96 (dk_at dksX5_goesOn_13 6 rfl rfl)
theorem dX5_goesOn_310 : decode cX5_goesOn 310 = .ok (.iaload, 1) := dk_46 (dk_at dksX5_goesOn_13 7 rfl rfl)
theorem dX5_goesOn_311 : decode cX5_goesOn 311 = .ok (.aload_n 0, 1) := dk_42 (dk_at dksX5_goesOn_13 8 rfl rfl)
theorem dX5_goesOn_312 : decode cX5_goesOn 312 = .ok (.getfield 33, 3) := dk_180 0 33 (dk_at dksX5_goesOn_13 9 rfl rfl)
theorem dX5_goesOn_315 : decode cX5_goesOn 315 = .ok (.bipush 32, 2) := dk_16 32 (dk_at dksX5_goesOn_13 12 rfl rfl)
theorem dX5_goesOn_317 : decode cX5_goesOn 317 = .ok (.iaload, 1) := dk_46 (dk_at dksX5_goesOn_13 14 rfl rfl)
theorem dX5_goesOn_318 : decode cX5_goesOn 318 = .ok (.if_icmp .ne 24, 3) := dk_160 0 24 (dk_at dksX5_goesOn_13 15 rfl rfl)
theorem dX5_goesOn_321 : decode cX5_goesOn 321 = .ok (.aload_n 0, 1) := dk_42 (dk_at dksX5_goesOn_13 18 rfl rfl)
theorem dX5_goesOn_322 : decode cX5_goesOn 322 = .ok (.getfield 256, 3) := dk_180 1 0 (dk_at dksX5_goesOn_13 19 rfl rfl)
theorem dX5_goesOn_325 : decode cX5_goesOn 325 = .ok (.iconst (-1), 1) := dk_2 (dk_at dksX5_goesOn_13 22 rfl rfl)
theorem dX5_goesOn_326 : decode cX5_goesOn 326 = .ok (.if_icmp .eq 11, 3) := dk_159 0 11 (dk_at dksX5_goesOn_14 0 rfl rfl)
theorem dX5_goesOn_329 : decode cX5_goesOn 329 = .ok (.iload_n 1, 1) := dk_27 (dk_at dksX5_goesOn_14 3 rfl rfl)
theorem dX5_goesOn_330 : decode cX5_goesOn 330 = .ok (.aload_n 0, 1) := dk_42 (dk_at dksX5_goesOn_14 4 rfl rfl)
theorem dX5_goesOn_331 : decode cX5_goesOn 331 = .ok (.getfield 256, 3) := dk_180 1 0 (dk_at dksX5_goesOn_14 5 rfl rfl)
theorem dX5_goesOn_334 : decode cX5_goesOn 334 = .ok (.if_icmp .ge 8, 3) := dk_162 0 8 (dk_at dksX5_goesOn_14 8 rfl rfl)
theorem dX5_goesOn_337 : decode cX5_goesOn 337 = .ok (.aload_n 0, 1) := dk_42 (dk_at dksX5_goesOn_14 11 rfl rfl)
theorem dX5_goesOn_338 : decode cX5_goesOn 338 = .ok (.iload_n 1, 1) := dk_27 (dk_at dksX5_goesOn_14 12 rfl rfl)
theorem dX5_goesOn_339 : decode cX5_goesOn 339 = .ok (.putfield 256, 3) := dk_181 1 0 (dk_at dksX5_goesOn_14 13 rfl rfl)
theorem dX5_goesOn_342 : decode cX5_goesOn 342 = .ok (.return_, 1) := dk_177 (dk_at dksX5_goesOn_14 16 rfl rfl)
abbrev cX5_stopped : ByteArray := prog_21_method_49_code
def yX5_stopped : MethodName := ⟨RX5, "stopped", "()I"⟩
def dkwX5_stopped_1 : List UInt8 := [5, 160, 0, 9, 4, 28, 120, 167, 0, 4, 3, 128, 60, 132, 2, 1, 167, 255, 220, 27, 172]
abbrev dktX5_stopped_1 : List UInt8 := dkwX5_stopped_1 ++ []
def dkwX5_stopped_0 : List UInt8 := [3, 60, 3, 61, 28, 42, 180, 0, 17, 4, 46, 162, 0, 32, 27, 42, 180, 0, 33, 16, 16, 28, 96, 46]
abbrev dktX5_stopped_0 : List UInt8 := dkwX5_stopped_0 ++ dktX5_stopped_1
theorem dksX5_stopped_0 : cX5_stopped.data.toList.drop 0 = dktX5_stopped_0 := by decide +kernel
theorem dksX5_stopped_1 : cX5_stopped.data.toList.drop 24 = dktX5_stopped_1 := dk_seg dksX5_stopped_0 24 rfl rfl
theorem dX5_stopped_0 : decode cX5_stopped 0 = .ok (.iconst 0, 1) := dk_3 (dk_at dksX5_stopped_0 0 rfl rfl)
theorem dX5_stopped_1 : decode cX5_stopped 1 = .ok (.istore_n 1, 1) := dk_60 (dk_at dksX5_stopped_0 1 rfl rfl)
theorem dX5_stopped_2 : decode cX5_stopped 2 = .ok (.iconst 0, 1) := dk_3 (dk_at dksX5_stopped_0 2 rfl rfl)
theorem dX5_stopped_3 : decode cX5_stopped 3 = .ok (.istore_n 2, 1) := dk_61 (dk_at dksX5_stopped_0 3 rfl rfl)
theorem dX5_stopped_4 : decode cX5_stopped 4 = .ok (.iload_n 2, 1) := dk_28 (dk_at dksX5_stopped_0 4 rfl rfl)
theorem dX5_stopped_5 : decode cX5_stopped 5 = .ok (.aload_n 0, 1) := dk_42 (dk_at dksX5_stopped_0 5 rfl rfl)
theorem dX5_stopped_6 : decode cX5_stopped 6 = .ok (.getfield 17, 3) := dk_180 0 17 (dk_at dksX5_stopped_0 6 rfl rfl)
theorem dX5_stopped_9 : decode cX5_stopped 9 = .ok (.iconst 1, 1) := dk_4 (dk_at dksX5_stopped_0 9 rfl rfl)
theorem dX5_stopped_10 : decode cX5_stopped 10 = .ok (.iaload, 1) := dk_46 (dk_at dksX5_stopped_0 10 rfl rfl)
theorem dX5_stopped_11 : decode cX5_stopped 11 = .ok (.if_icmp .ge 32, 3) := dk_162 0 32 (dk_at dksX5_stopped_0 11 rfl rfl)
theorem dX5_stopped_14 : decode cX5_stopped 14 = .ok (.iload_n 1, 1) := dk_27 (dk_at dksX5_stopped_0 14 rfl rfl)
theorem dX5_stopped_15 : decode cX5_stopped 15 = .ok (.aload_n 0, 1) := dk_42 (dk_at dksX5_stopped_0 15 rfl rfl)
theorem dX5_stopped_16 : decode cX5_stopped 16 = .ok (.getfield 33, 3) := dk_180 0 33 (dk_at dksX5_stopped_0 16 rfl rfl)
theorem dX5_stopped_19 : decode cX5_stopped 19 = .ok (.bipush 16, 2) := dk_16 16 (dk_at dksX5_stopped_0 19 rfl rfl)
theorem dX5_stopped_21 : decode cX5_stopped 21 = .ok (.iload_n 2, 1) := dk_28 (dk_at dksX5_stopped_0 21 rfl rfl)
theorem dX5_stopped_22 : decode cX5_stopped 22 = .ok (.iadd, 1) := dk_96 (dk_at dksX5_stopped_0 22 rfl rfl)
theorem dX5_stopped_23 : decode cX5_stopped 23 = .ok (.iaload, 1) := dk_46 (dk_at dksX5_stopped_0 23 rfl rfl)
theorem dX5_stopped_24 : decode cX5_stopped 24 = .ok (.iconst 2, 1) := dk_5 (dk_at dksX5_stopped_1 0 rfl rfl)
theorem dX5_stopped_25 : decode cX5_stopped 25 = .ok (.if_icmp .ne 9, 3) := dk_160 0 9 (dk_at dksX5_stopped_1 1 rfl rfl)
theorem dX5_stopped_28 : decode cX5_stopped 28 = .ok (.iconst 1, 1) := dk_4 (dk_at dksX5_stopped_1 4 rfl rfl)
theorem dX5_stopped_29 : decode cX5_stopped 29 = .ok (.iload_n 2, 1) := dk_28 (dk_at dksX5_stopped_1 5 rfl rfl)
theorem dX5_stopped_30 : decode cX5_stopped 30 = .ok (.ishl, 1) := dk_120 (dk_at dksX5_stopped_1 6 rfl rfl)
theorem dX5_stopped_31 : decode cX5_stopped 31 = .ok (.goto 4, 3) := dk_167 0 4 (dk_at dksX5_stopped_1 7 rfl rfl)
theorem dX5_stopped_34 : decode cX5_stopped 34 = .ok (.iconst 0, 1) := dk_3 (dk_at dksX5_stopped_1 10 rfl rfl)
theorem dX5_stopped_35 : decode cX5_stopped 35 = .ok (.ior, 1) := dk_128 (dk_at dksX5_stopped_1 11 rfl rfl)
theorem dX5_stopped_36 : decode cX5_stopped 36 = .ok (.istore_n 1, 1) := dk_60 (dk_at dksX5_stopped_1 12 rfl rfl)
theorem dX5_stopped_37 : decode cX5_stopped 37 = .ok (.iinc 2 1, 3) := dk_132 2 1 (dk_at dksX5_stopped_1 13 rfl rfl)
theorem dX5_stopped_40 : decode cX5_stopped 40 = .ok (.goto (-36), 3) := dk_167 255 220 (dk_at dksX5_stopped_1 16 rfl rfl)
theorem dX5_stopped_43 : decode cX5_stopped 43 = .ok (.iload_n 1, 1) := dk_27 (dk_at dksX5_stopped_1 19 rfl rfl)
theorem dX5_stopped_44 : decode cX5_stopped 44 = .ok (.ireturn, 1) := dk_172 (dk_at dksX5_stopped_1 20 rfl rfl)
abbrev cX5_watch : ByteArray := prog_21_method_51_code
def yX5_watch : MethodName := ⟨RX5, "watch", "(IIII)I"⟩
def dkwX5_watch_2 : List UInt8 := [42, 27, 28, 182, 1, 19, 42, 180, 0, 33, 3, 16, 8, 21, 4, 104, 96, 29, 96, 46, 172]
abbrev dktX5_watch_2 : List UInt8 := dkwX5_watch_2 ++ []
def dkwX5_watch_1 : List UInt8 := [153, 0, 16, 21, 4, 133, 9, 20, 0, 213, 184, 0, 152, 154, 0, 11, 42, 17, 252, 24, 182, 1, 27, 172]
abbrev dktX5_watch_1 : List UInt8 := dkwX5_watch_1 ++ dktX5_watch_2
def dkwX5_watch_0 : List UInt8 := [42, 3, 181, 0, 1, 42, 29, 182, 0, 210, 153, 0, 28, 28, 133, 9, 20, 1, 25, 184, 0, 152]
abbrev dktX5_watch_0 : List UInt8 := dkwX5_watch_0 ++ dktX5_watch_1
theorem dksX5_watch_0 : cX5_watch.data.toList.drop 0 = dktX5_watch_0 := by decide +kernel
theorem dksX5_watch_1 : cX5_watch.data.toList.drop 22 = dktX5_watch_1 := dk_seg dksX5_watch_0 22 rfl rfl
theorem dksX5_watch_2 : cX5_watch.data.toList.drop 46 = dktX5_watch_2 := dk_seg dksX5_watch_1 24 rfl rfl
theorem dX5_watch_0 : decode cX5_watch 0 = .ok (.aload_n 0, 1) := dk_42 (dk_at dksX5_watch_0 0 rfl rfl)
theorem dX5_watch_1 : decode cX5_watch 1 = .ok (.iconst 0, 1) := dk_3 (dk_at dksX5_watch_0 1 rfl rfl)
theorem dX5_watch_2 : decode cX5_watch 2 = .ok (.putfield 1, 3) := dk_181 0 1 (dk_at dksX5_watch_0 2 rfl rfl)
theorem dX5_watch_5 : decode cX5_watch 5 = .ok (.aload_n 0, 1) := dk_42 (dk_at dksX5_watch_0 5 rfl rfl)
theorem dX5_watch_6 : decode cX5_watch 6 = .ok (.iload_n 3, 1) := dk_29 (dk_at dksX5_watch_0 6 rfl rfl)
theorem dX5_watch_7 : decode cX5_watch 7 = .ok (.invokevirtual 210, 3) := dk_182 0 210 (dk_at dksX5_watch_0 7 rfl rfl)
theorem dX5_watch_10 : decode cX5_watch 10 = .ok (.ifCond .eq 28, 3) := dk_153 0 28 (dk_at dksX5_watch_0 10 rfl rfl)
theorem dX5_watch_13 : decode cX5_watch 13 = .ok (.iload_n 2, 1) := dk_28 (dk_at dksX5_watch_0 13 rfl rfl)
theorem dX5_watch_14 : decode cX5_watch 14 = .ok (.i2l, 1) := dk_133 (dk_at dksX5_watch_0 14 rfl rfl)
theorem dX5_watch_15 : decode cX5_watch 15 = .ok (.lconst 0, 1) := dk_9 (dk_at dksX5_watch_0 15 rfl rfl)
theorem dX5_watch_16 : decode cX5_watch 16 = .ok (.ldc2_w 281, 3) := dk_20 1 25 (dk_at dksX5_watch_0 16 rfl rfl)
theorem dX5_watch_19 : decode cX5_watch 19 = .ok (.invokestatic 152, 3) := dk_184 0 152 (dk_at dksX5_watch_0 19 rfl rfl)
theorem dX5_watch_22 : decode cX5_watch 22 = .ok (.ifCond .eq 16, 3) := dk_153 0 16 (dk_at dksX5_watch_1 0 rfl rfl)
theorem dX5_watch_25 : decode cX5_watch 25 = .ok (.iload 4, 2) := dk_21 4 (dk_at dksX5_watch_1 3 rfl rfl)
theorem dX5_watch_27 : decode cX5_watch 27 = .ok (.i2l, 1) := dk_133 (dk_at dksX5_watch_1 5 rfl rfl)
theorem dX5_watch_28 : decode cX5_watch 28 = .ok (.lconst 0, 1) := dk_9 (dk_at dksX5_watch_1 6 rfl rfl)
theorem dX5_watch_29 : decode cX5_watch 29 = .ok (.ldc2_w 213, 3) := dk_20 0 213 (dk_at dksX5_watch_1 7 rfl rfl)
theorem dX5_watch_32 : decode cX5_watch 32 = .ok (.invokestatic 152, 3) := dk_184 0 152 (dk_at dksX5_watch_1 10 rfl rfl)
theorem dX5_watch_35 : decode cX5_watch 35 = .ok (.ifCond .ne 11, 3) := dk_154 0 11 (dk_at dksX5_watch_1 13 rfl rfl)
theorem dX5_watch_38 : decode cX5_watch 38 = .ok (.aload_n 0, 1) := dk_42 (dk_at dksX5_watch_1 16 rfl rfl)
theorem dX5_watch_39 : decode cX5_watch 39 = .ok (.sipush (-1000), 3) := dk_17 252 24 (dk_at dksX5_watch_1 17 rfl rfl)
theorem dX5_watch_42 : decode cX5_watch 42 = .ok (.invokevirtual 283, 3) := dk_182 1 27 (dk_at dksX5_watch_1 20 rfl rfl)
theorem dX5_watch_45 : decode cX5_watch 45 = .ok (.ireturn, 1) := dk_172 (dk_at dksX5_watch_1 23 rfl rfl)
theorem dX5_watch_46 : decode cX5_watch 46 = .ok (.aload_n 0, 1) := dk_42 (dk_at dksX5_watch_2 0 rfl rfl)
theorem dX5_watch_47 : decode cX5_watch 47 = .ok (.iload_n 1, 1) := dk_27 (dk_at dksX5_watch_2 1 rfl rfl)
theorem dX5_watch_48 : decode cX5_watch 48 = .ok (.iload_n 2, 1) := dk_28 (dk_at dksX5_watch_2 2 rfl rfl)
theorem dX5_watch_49 : decode cX5_watch 49 = .ok (.invokevirtual 275, 3) := dk_182 1 19 (dk_at dksX5_watch_2 3 rfl rfl)
theorem dX5_watch_52 : decode cX5_watch 52 = .ok (.aload_n 0, 1) := dk_42 (dk_at dksX5_watch_2 6 rfl rfl)
theorem dX5_watch_53 : decode cX5_watch 53 = .ok (.getfield 33, 3) := dk_180 0 33 (dk_at dksX5_watch_2 7 rfl rfl)
theorem dX5_watch_56 : decode cX5_watch 56 = .ok (.iconst 0, 1) := dk_3 (dk_at dksX5_watch_2 10 rfl rfl)
theorem dX5_watch_57 : decode cX5_watch 57 = .ok (.bipush 8, 2) := dk_16 8 (dk_at dksX5_watch_2 11 rfl rfl)
theorem dX5_watch_59 : decode cX5_watch 59 = .ok (.iload 4, 2) := dk_21 4 (dk_at dksX5_watch_2 13 rfl rfl)
theorem dX5_watch_61 : decode cX5_watch 61 = .ok (.imul, 1) := dk_104 (dk_at dksX5_watch_2 15 rfl rfl)
theorem dX5_watch_62 : decode cX5_watch 62 = .ok (.iadd, 1) := dk_96 (dk_at dksX5_watch_2 16 rfl rfl)
theorem dX5_watch_63 : decode cX5_watch 63 = .ok (.iload_n 3, 1) := dk_29 (dk_at dksX5_watch_2 17 rfl rfl)
theorem dX5_watch_64 : decode cX5_watch 64 = .ok (.iadd, 1) := dk_96 (dk_at dksX5_watch_2 18 rfl rfl)
theorem dX5_watch_65 : decode cX5_watch 65 = .ok (.iaload, 1) := dk_46 (dk_at dksX5_watch_2 19 rfl rfl)
theorem dX5_watch_66 : decode cX5_watch 66 = .ok (.ireturn, 1) := dk_172 (dk_at dksX5_watch_2 20 rfl rfl)
abbrev cX5_none : ByteArray := prog_21_method_3_code
def yX5_none : MethodName := ⟨RX5, "none", "(I)I"⟩
def dkwX5_none_0 : List UInt8 := [42, 180, 0, 7, 3, 92, 46, 4, 96, 79, 27, 172]
abbrev dktX5_none_0 : List UInt8 := dkwX5_none_0 ++ []
theorem dksX5_none_0 : cX5_none.data.toList.drop 0 = dktX5_none_0 := by decide +kernel
theorem dX5_none_0 : decode cX5_none 0 = .ok (.aload_n 0, 1) := dk_42 (dk_at dksX5_none_0 0 rfl rfl)
theorem dX5_none_1 : decode cX5_none 1 = .ok (.getfield 7, 3) := dk_180 0 7 (dk_at dksX5_none_0 1 rfl rfl)
theorem dX5_none_4 : decode cX5_none 4 = .ok (.iconst 0, 1) := dk_3 (dk_at dksX5_none_0 4 rfl rfl)
theorem dX5_none_5 : decode cX5_none 5 = .ok (.dup2, 1) := dk_92 (dk_at dksX5_none_0 5 rfl rfl)
theorem dX5_none_6 : decode cX5_none 6 = .ok (.iaload, 1) := dk_46 (dk_at dksX5_none_0 6 rfl rfl)
theorem dX5_none_7 : decode cX5_none 7 = .ok (.iconst 1, 1) := dk_4 (dk_at dksX5_none_0 7 rfl rfl)
theorem dX5_none_8 : decode cX5_none 8 = .ok (.iadd, 1) := dk_96 (dk_at dksX5_none_0 8 rfl rfl)
theorem dX5_none_9 : decode cX5_none 9 = .ok (.iastore, 1) := dk_79 (dk_at dksX5_none_0 9 rfl rfl)
theorem dX5_none_10 : decode cX5_none 10 = .ok (.iload_n 1, 1) := dk_27 (dk_at dksX5_none_0 10 rfl rfl)
theorem dX5_none_11 : decode cX5_none 11 = .ok (.ireturn, 1) := dk_172 (dk_at dksX5_none_0 11 rfl rfl)
abbrev cX5_stands : ByteArray := prog_21_method_52_code
def yX5_stands : MethodName := ⟨RX5, "stands", "(II)I"⟩
def dkwX5_stands_2 : List UInt8 := [172]
abbrev dktX5_stands_2 : List UInt8 := dkwX5_stands_2 ++ []
def dkwX5_stands_1 : List UInt8 := [42, 27, 28, 182, 1, 19, 16, 10, 42, 180, 0, 33, 16, 32, 46, 104, 42, 180, 0, 33, 16, 33, 46, 96]
abbrev dktX5_stands_1 : List UInt8 := dkwX5_stands_1 ++ dktX5_stands_2
def dkwX5_stands_0 : List UInt8 := [42, 3, 181, 0, 1, 28, 133, 9, 20, 1, 25, 184, 0, 152, 154, 0, 10, 42, 16, 253, 182, 0, 89, 172]
abbrev dktX5_stands_0 : List UInt8 := dkwX5_stands_0 ++ dktX5_stands_1
theorem dksX5_stands_0 : cX5_stands.data.toList.drop 0 = dktX5_stands_0 := by decide +kernel
theorem dksX5_stands_1 : cX5_stands.data.toList.drop 24 = dktX5_stands_1 := dk_seg dksX5_stands_0 24 rfl rfl
theorem dksX5_stands_2 : cX5_stands.data.toList.drop 48 = dktX5_stands_2 := dk_seg dksX5_stands_1 24 rfl rfl
theorem dX5_stands_0 : decode cX5_stands 0 = .ok (.aload_n 0, 1) := dk_42 (dk_at dksX5_stands_0 0 rfl rfl)
theorem dX5_stands_1 : decode cX5_stands 1 = .ok (.iconst 0, 1) := dk_3 (dk_at dksX5_stands_0 1 rfl rfl)
theorem dX5_stands_2 : decode cX5_stands 2 = .ok (.putfield 1, 3) := dk_181 0 1 (dk_at dksX5_stands_0 2 rfl rfl)
theorem dX5_stands_5 : decode cX5_stands 5 = .ok (.iload_n 2, 1) := dk_28 (dk_at dksX5_stands_0 5 rfl rfl)
theorem dX5_stands_6 : decode cX5_stands 6 = .ok (.i2l, 1) := dk_133 (dk_at dksX5_stands_0 6 rfl rfl)
theorem dX5_stands_7 : decode cX5_stands 7 = .ok (.lconst 0, 1) := dk_9 (dk_at dksX5_stands_0 7 rfl rfl)
theorem dX5_stands_8 : decode cX5_stands 8 = .ok (.ldc2_w 281, 3) := dk_20 1 25 (dk_at dksX5_stands_0 8 rfl rfl)
theorem dX5_stands_11 : decode cX5_stands 11 = .ok (.invokestatic 152, 3) := dk_184 0 152 (dk_at dksX5_stands_0 11 rfl rfl)
theorem dX5_stands_14 : decode cX5_stands 14 = .ok (.ifCond .ne 10, 3) := dk_154 0 10 (dk_at dksX5_stands_0 14 rfl rfl)
theorem dX5_stands_17 : decode cX5_stands 17 = .ok (.aload_n 0, 1) := dk_42 (dk_at dksX5_stands_0 17 rfl rfl)
theorem dX5_stands_18 : decode cX5_stands 18 = .ok (.bipush (-3), 2) := dk_16 253 (dk_at dksX5_stands_0 18 rfl rfl)
theorem dX5_stands_20 : decode cX5_stands 20 = .ok (.invokevirtual 89, 3) := dk_182 0 89 (dk_at dksX5_stands_0 20 rfl rfl)
theorem dX5_stands_23 : decode cX5_stands 23 = .ok (.ireturn, 1) := dk_172 (dk_at dksX5_stands_0 23 rfl rfl)
theorem dX5_stands_24 : decode cX5_stands 24 = .ok (.aload_n 0, 1) := dk_42 (dk_at dksX5_stands_1 0 rfl rfl)
theorem dX5_stands_25 : decode cX5_stands 25 = .ok (.iload_n 1, 1) := dk_27 (dk_at dksX5_stands_1 1 rfl rfl)
theorem dX5_stands_26 : decode cX5_stands 26 = .ok (.iload_n 2, 1) := dk_28 (dk_at dksX5_stands_1 2 rfl rfl)
theorem dX5_stands_27 : decode cX5_stands 27 = .ok (.invokevirtual 275, 3) := dk_182 1 19 (dk_at dksX5_stands_1 3 rfl rfl)
theorem dX5_stands_30 : decode cX5_stands 30 = .ok (.bipush 10, 2) := dk_16 10 (dk_at dksX5_stands_1 6 rfl rfl)
theorem dX5_stands_32 : decode cX5_stands 32 = .ok (.aload_n 0, 1) := dk_42 (dk_at dksX5_stands_1 8 rfl rfl)
theorem dX5_stands_33 : decode cX5_stands 33 = .ok (.getfield 33, 3) := dk_180 0 33 (dk_at dksX5_stands_1 9 rfl rfl)
theorem dX5_stands_36 : decode cX5_stands 36 = .ok (.bipush 32, 2) := dk_16 32 (dk_at dksX5_stands_1 12 rfl rfl)
theorem dX5_stands_38 : decode cX5_stands 38 = .ok (.iaload, 1) := dk_46 (dk_at dksX5_stands_1 14 rfl rfl)
theorem dX5_stands_39 : decode cX5_stands 39 = .ok (.imul, 1) := dk_104 (dk_at dksX5_stands_1 15 rfl rfl)
theorem dX5_stands_40 : decode cX5_stands 40 = .ok (.aload_n 0, 1) := dk_42 (dk_at dksX5_stands_1 16 rfl rfl)
theorem dX5_stands_41 : decode cX5_stands 41 = .ok (.getfield 33, 3) := dk_180 0 33 (dk_at dksX5_stands_1 17 rfl rfl)
theorem dX5_stands_44 : decode cX5_stands 44 = .ok (.bipush 33, 2) := dk_16 33 (dk_at dksX5_stands_1 20 rfl rfl)
theorem dX5_stands_46 : decode cX5_stands 46 = .ok (.iaload, 1) := dk_46 (dk_at dksX5_stands_1 22 rfl rfl)
theorem dX5_stands_47 : decode cX5_stands 47 = .ok (.iadd, 1) := dk_96 (dk_at dksX5_stands_1 23 rfl rfl)
theorem dX5_stands_48 : decode cX5_stands 48 = .ok (.ireturn, 1) := dk_172 (dk_at dksX5_stands_2 0 rfl rfl)
abbrev cX5_tries : ByteArray := prog_21_method_53_code
def yX5_tries : MethodName := ⟨RX5, "tries", "(III)I"⟩
def dkwX5_tries_5 : List UInt8 := [132, 5, 1, 167, 255, 186, 21, 4, 172]
abbrev dktX5_tries_5 : List UInt8 := dkwX5_tries_5 ++ []
def dkwX5_tries_4 : List UInt8 := [46, 167, 0, 19, 42, 180, 0, 33, 16, 37, 46, 29, 160, 0, 7, 4, 167, 0, 4, 3, 96, 54, 4]
abbrev dktX5_tries_4 : List UInt8 := dkwX5_tries_4 ++ dktX5_tries_5
def dkwX5_tries_3 : List UInt8 := [160, 0, 13, 42, 180, 0, 33, 16, 38, 46, 167, 0, 34, 29, 8, 160, 0, 13, 42, 180, 0, 33, 16, 36]
abbrev dktX5_tries_3 : List UInt8 := dkwX5_tries_3 ++ dktX5_tries_4
def dkwX5_tries_2 : List UInt8 := [54, 5, 21, 5, 28, 162, 0, 70, 42, 27, 21, 5, 96, 16, 99, 182, 1, 19, 21, 4, 29, 7]
abbrev dktX5_tries_2 : List UInt8 := dkwX5_tries_2 ++ dktX5_tries_3
def dkwX5_tries_1 : List UInt8 := [28, 133, 10, 20, 0, 221, 184, 0, 152, 154, 0, 10, 42, 16, 253, 182, 0, 89, 172, 3, 54, 4, 3]
abbrev dktX5_tries_1 : List UInt8 := dkwX5_tries_1 ++ dktX5_tries_2
def dkwX5_tries_0 : List UInt8 := [42, 3, 181, 0, 1, 29, 133, 10, 20, 0, 172, 184, 0, 152, 154, 0, 10, 42, 16, 254, 182, 0, 89, 172]
abbrev dktX5_tries_0 : List UInt8 := dkwX5_tries_0 ++ dktX5_tries_1
theorem dksX5_tries_0 : cX5_tries.data.toList.drop 0 = dktX5_tries_0 := by decide +kernel
theorem dksX5_tries_1 : cX5_tries.data.toList.drop 24 = dktX5_tries_1 := dk_seg dksX5_tries_0 24 rfl rfl
theorem dksX5_tries_2 : cX5_tries.data.toList.drop 47 = dktX5_tries_2 := dk_seg dksX5_tries_1 23 rfl rfl
theorem dksX5_tries_3 : cX5_tries.data.toList.drop 69 = dktX5_tries_3 := dk_seg dksX5_tries_2 22 rfl rfl
theorem dksX5_tries_4 : cX5_tries.data.toList.drop 93 = dktX5_tries_4 := dk_seg dksX5_tries_3 24 rfl rfl
theorem dksX5_tries_5 : cX5_tries.data.toList.drop 116 = dktX5_tries_5 := dk_seg dksX5_tries_4 23 rfl rfl
theorem dX5_tries_0 : decode cX5_tries 0 = .ok (.aload_n 0, 1) := dk_42 (dk_at dksX5_tries_0 0 rfl rfl)
theorem dX5_tries_1 : decode cX5_tries 1 = .ok (.iconst 0, 1) := dk_3 (dk_at dksX5_tries_0 1 rfl rfl)
theorem dX5_tries_2 : decode cX5_tries 2 = .ok (.putfield 1, 3) := dk_181 0 1 (dk_at dksX5_tries_0 2 rfl rfl)
theorem dX5_tries_5 : decode cX5_tries 5 = .ok (.iload_n 3, 1) := dk_29 (dk_at dksX5_tries_0 5 rfl rfl)
theorem dX5_tries_6 : decode cX5_tries 6 = .ok (.i2l, 1) := dk_133 (dk_at dksX5_tries_0 6 rfl rfl)
theorem dX5_tries_7 : decode cX5_tries 7 = .ok (.lconst 1, 1) := dk_10 (dk_at dksX5_tries_0 7 rfl rfl)
theorem dX5_tries_8 : decode cX5_tries 8 = .ok (.ldc2_w 172, 3) := dk_20 0 172 (dk_at dksX5_tries_0 8 rfl rfl)
theorem dX5_tries_11 : decode cX5_tries 11 = .ok (.invokestatic 152, 3) := dk_184 0 152 (dk_at dksX5_tries_0 11 rfl rfl)
theorem dX5_tries_14 : decode cX5_tries 14 = .ok (.ifCond .ne 10, 3) := dk_154 0 10 (dk_at dksX5_tries_0 14 rfl rfl)
theorem dX5_tries_17 : decode cX5_tries 17 = .ok (.aload_n 0, 1) := dk_42 (dk_at dksX5_tries_0 17 rfl rfl)
theorem dX5_tries_18 : decode cX5_tries 18 = .ok (.bipush (-2), 2) := dk_16 254 (dk_at dksX5_tries_0 18 rfl rfl)
theorem dX5_tries_20 : decode cX5_tries 20 = .ok (.invokevirtual 89, 3) := dk_182 0 89 (dk_at dksX5_tries_0 20 rfl rfl)
theorem dX5_tries_23 : decode cX5_tries 23 = .ok (.ireturn, 1) := dk_172 (dk_at dksX5_tries_0 23 rfl rfl)
theorem dX5_tries_24 : decode cX5_tries 24 = .ok (.iload_n 2, 1) := dk_28 (dk_at dksX5_tries_1 0 rfl rfl)
theorem dX5_tries_25 : decode cX5_tries 25 = .ok (.i2l, 1) := dk_133 (dk_at dksX5_tries_1 1 rfl rfl)
theorem dX5_tries_26 : decode cX5_tries 26 = .ok (.lconst 1, 1) := dk_10 (dk_at dksX5_tries_1 2 rfl rfl)
theorem dX5_tries_27 : decode cX5_tries 27 = .ok (.ldc2_w 221, 3) := dk_20 0 221 (dk_at dksX5_tries_1 3 rfl rfl)
theorem dX5_tries_30 : decode cX5_tries 30 = .ok (.invokestatic 152, 3) := dk_184 0 152 (dk_at dksX5_tries_1 6 rfl rfl)
theorem dX5_tries_33 : decode cX5_tries 33 = .ok (.ifCond .ne 10, 3) := dk_154 0 10 (dk_at dksX5_tries_1 9 rfl rfl)
theorem dX5_tries_36 : decode cX5_tries 36 = .ok (.aload_n 0, 1) := dk_42 (dk_at dksX5_tries_1 12 rfl rfl)
theorem dX5_tries_37 : decode cX5_tries 37 = .ok (.bipush (-3), 2) := dk_16 253 (dk_at dksX5_tries_1 13 rfl rfl)
theorem dX5_tries_39 : decode cX5_tries 39 = .ok (.invokevirtual 89, 3) := dk_182 0 89 (dk_at dksX5_tries_1 15 rfl rfl)
theorem dX5_tries_42 : decode cX5_tries 42 = .ok (.ireturn, 1) := dk_172 (dk_at dksX5_tries_1 18 rfl rfl)
theorem dX5_tries_43 : decode cX5_tries 43 = .ok (.iconst 0, 1) := dk_3 (dk_at dksX5_tries_1 19 rfl rfl)
theorem dX5_tries_44 : decode cX5_tries 44 = .ok (.istore 4, 2) := dk_54 4 (dk_at dksX5_tries_1 20 rfl rfl)
theorem dX5_tries_46 : decode cX5_tries 46 = .ok (.iconst 0, 1) := dk_3 (dk_at dksX5_tries_1 22 rfl rfl)
theorem dX5_tries_47 : decode cX5_tries 47 = .ok (.istore 5, 2) := dk_54 5 (dk_at dksX5_tries_2 0 rfl rfl)
theorem dX5_tries_49 : decode cX5_tries 49 = .ok (.iload 5, 2) := dk_21 5 (dk_at dksX5_tries_2 2 rfl rfl)
theorem dX5_tries_51 : decode cX5_tries 51 = .ok (.iload_n 2, 1) := dk_28 (dk_at dksX5_tries_2 4 rfl rfl)
theorem dX5_tries_52 : decode cX5_tries 52 = .ok (.if_icmp .ge 70, 3) := dk_162 0 70 (dk_at dksX5_tries_2 5 rfl rfl)
theorem dX5_tries_55 : decode cX5_tries 55 = .ok (.aload_n 0, 1) := dk_42 (dk_at dksX5_tries_2 8 rfl rfl)
theorem dX5_tries_56 : decode cX5_tries 56 = .ok (.iload_n 1, 1) := dk_27 (dk_at dksX5_tries_2 9 rfl rfl)
theorem dX5_tries_57 : decode cX5_tries 57 = .ok (.iload 5, 2) := dk_21 5 (dk_at dksX5_tries_2 10 rfl rfl)
theorem dX5_tries_59 : decode cX5_tries 59 = .ok (.iadd, 1) := dk_96 (dk_at dksX5_tries_2 12 rfl rfl)
theorem dX5_tries_60 : decode cX5_tries 60 = .ok (.bipush 99, 2) := dk_16 99 (dk_at dksX5_tries_2 13 rfl rfl)
theorem dX5_tries_62 : decode cX5_tries 62 = .ok (.invokevirtual 275, 3) := dk_182 1 19 (dk_at dksX5_tries_2 15 rfl rfl)
theorem dX5_tries_65 : decode cX5_tries 65 = .ok (.iload 4, 2) := dk_21 4 (dk_at dksX5_tries_2 18 rfl rfl)
theorem dX5_tries_67 : decode cX5_tries 67 = .ok (.iload_n 3, 1) := dk_29 (dk_at dksX5_tries_2 20 rfl rfl)
theorem dX5_tries_68 : decode cX5_tries 68 = .ok (.iconst 4, 1) := dk_7 (dk_at dksX5_tries_2 21 rfl rfl)
theorem dX5_tries_69 : decode cX5_tries 69 = .ok (.if_icmp .ne 13, 3) := dk_160 0 13 (dk_at dksX5_tries_3 0 rfl rfl)
theorem dX5_tries_72 : decode cX5_tries 72 = .ok (.aload_n 0, 1) := dk_42 (dk_at dksX5_tries_3 3 rfl rfl)
theorem dX5_tries_73 : decode cX5_tries 73 = .ok (.getfield 33, 3) := dk_180 0 33 (dk_at dksX5_tries_3 4 rfl rfl)
theorem dX5_tries_76 : decode cX5_tries 76 = .ok (.bipush 38, 2) := dk_16 38 (dk_at dksX5_tries_3 7 rfl rfl)
theorem dX5_tries_78 : decode cX5_tries 78 = .ok (.iaload, 1) := dk_46 (dk_at dksX5_tries_3 9 rfl rfl)
theorem dX5_tries_79 : decode cX5_tries 79 = .ok (.goto 34, 3) := dk_167 0 34 (dk_at dksX5_tries_3 10 rfl rfl)
theorem dX5_tries_82 : decode cX5_tries 82 = .ok (.iload_n 3, 1) := dk_29 (dk_at dksX5_tries_3 13 rfl rfl)
theorem dX5_tries_83 : decode cX5_tries 83 = .ok (.iconst 5, 1) := dk_8 (dk_at dksX5_tries_3 14 rfl rfl)
theorem dX5_tries_84 : decode cX5_tries 84 = .ok (.if_icmp .ne 13, 3) := dk_160 0 13 (dk_at dksX5_tries_3 15 rfl rfl)
theorem dX5_tries_87 : decode cX5_tries 87 = .ok (.aload_n 0, 1) := dk_42 (dk_at dksX5_tries_3 18 rfl rfl)
theorem dX5_tries_88 : decode cX5_tries 88 = .ok (.getfield 33, 3) := dk_180 0 33 (dk_at dksX5_tries_3 19 rfl rfl)
theorem dX5_tries_91 : decode cX5_tries 91 = .ok (.bipush 36, 2) := dk_16 36 (dk_at dksX5_tries_3 22 rfl rfl)
theorem dX5_tries_93 : decode cX5_tries 93 = .ok (.iaload, 1) := dk_46 (dk_at dksX5_tries_4 0 rfl rfl)
theorem dX5_tries_94 : decode cX5_tries 94 = .ok (.goto 19, 3) := dk_167 0 19 (dk_at dksX5_tries_4 1 rfl rfl)
theorem dX5_tries_97 : decode cX5_tries 97 = .ok (.aload_n 0, 1) := dk_42 (dk_at dksX5_tries_4 4 rfl rfl)
theorem dX5_tries_98 : decode cX5_tries 98 = .ok (.getfield 33, 3) := dk_180 0 33 (dk_at dksX5_tries_4 5 rfl rfl)
theorem dX5_tries_101 : decode cX5_tries 101 = .ok (.bipush 37, 2) := dk_16 37 (dk_at dksX5_tries_4 8 rfl rfl)
theorem dX5_tries_103 : decode cX5_tries 103 = .ok (.iaload, 1) := dk_46 (dk_at dksX5_tries_4 10 rfl rfl)
theorem dX5_tries_104 : decode cX5_tries 104 = .ok (.iload_n 3, 1) := dk_29 (dk_at dksX5_tries_4 11 rfl rfl)
theorem dX5_tries_105 : decode cX5_tries 105 = .ok (.if_icmp .ne 7, 3) := dk_160 0 7 (dk_at dksX5_tries_4 12 rfl rfl)
theorem dX5_tries_108 : decode cX5_tries 108 = .ok (.iconst 1, 1) := dk_4 (dk_at dksX5_tries_4 15 rfl rfl)
theorem dX5_tries_109 : decode cX5_tries 109 = .ok (.goto 4, 3) := dk_167 0 4 (dk_at dksX5_tries_4 16 rfl rfl)
theorem dX5_tries_112 : decode cX5_tries 112 = .ok (.iconst 0, 1) := dk_3 (dk_at dksX5_tries_4 19 rfl rfl)
theorem dX5_tries_113 : decode cX5_tries 113 = .ok (.iadd, 1) := dk_96 (dk_at dksX5_tries_4 20 rfl rfl)
theorem dX5_tries_114 : decode cX5_tries 114 = .ok (.istore 4, 2) := dk_54 4 (dk_at dksX5_tries_4 21 rfl rfl)
theorem dX5_tries_116 : decode cX5_tries 116 = .ok (.iinc 5 1, 3) := dk_132 5 1 (dk_at dksX5_tries_5 0 rfl rfl)
theorem dX5_tries_119 : decode cX5_tries 119 = .ok (.goto (-70), 3) := dk_167 255 186 (dk_at dksX5_tries_5 3 rfl rfl)
theorem dX5_tries_122 : decode cX5_tries 122 = .ok (.iload 4, 2) := dk_21 4 (dk_at dksX5_tries_5 6 rfl rfl)
theorem dX5_tries_124 : decode cX5_tries 124 = .ok (.ireturn, 1) := dk_172 (dk_at dksX5_tries_5 8 rfl rfl)
abbrev cX5_odds : ByteArray := prog_21_method_57_code
def yX5_odds : MethodName := ⟨RX5, "odds", "(I)J"⟩
def dkwX5_odds_1 : List UInt8 := [173, 42, 182, 1, 40, 27, 8, 160, 0, 10, 42, 182, 1, 36, 167, 0, 9, 42, 180, 0, 54, 27, 47, 173]
abbrev dktX5_odds_1 : List UInt8 := dkwX5_odds_1 ++ []
def dkwX5_odds_0 : List UInt8 := [42, 3, 181, 0, 1, 27, 133, 9, 20, 0, 172, 184, 0, 152, 154, 0, 11, 42, 16, 254, 182, 0, 89, 133]
abbrev dktX5_odds_0 : List UInt8 := dkwX5_odds_0 ++ dktX5_odds_1
theorem dksX5_odds_0 : cX5_odds.data.toList.drop 0 = dktX5_odds_0 := by decide +kernel
theorem dksX5_odds_1 : cX5_odds.data.toList.drop 24 = dktX5_odds_1 := dk_seg dksX5_odds_0 24 rfl rfl
theorem dX5_odds_0 : decode cX5_odds 0 = .ok (.aload_n 0, 1) := dk_42 (dk_at dksX5_odds_0 0 rfl rfl)
theorem dX5_odds_1 : decode cX5_odds 1 = .ok (.iconst 0, 1) := dk_3 (dk_at dksX5_odds_0 1 rfl rfl)
theorem dX5_odds_2 : decode cX5_odds 2 = .ok (.putfield 1, 3) := dk_181 0 1 (dk_at dksX5_odds_0 2 rfl rfl)
theorem dX5_odds_5 : decode cX5_odds 5 = .ok (.iload_n 1, 1) := dk_27 (dk_at dksX5_odds_0 5 rfl rfl)
theorem dX5_odds_6 : decode cX5_odds 6 = .ok (.i2l, 1) := dk_133 (dk_at dksX5_odds_0 6 rfl rfl)
theorem dX5_odds_7 : decode cX5_odds 7 = .ok (.lconst 0, 1) := dk_9 (dk_at dksX5_odds_0 7 rfl rfl)
theorem dX5_odds_8 : decode cX5_odds 8 = .ok (.ldc2_w 172, 3) := dk_20 0 172 (dk_at dksX5_odds_0 8 rfl rfl)
theorem dX5_odds_11 : decode cX5_odds 11 = .ok (.invokestatic 152, 3) := dk_184 0 152 (dk_at dksX5_odds_0 11 rfl rfl)
theorem dX5_odds_14 : decode cX5_odds 14 = .ok (.ifCond .ne 11, 3) := dk_154 0 11 (dk_at dksX5_odds_0 14 rfl rfl)
theorem dX5_odds_17 : decode cX5_odds 17 = .ok (.aload_n 0, 1) := dk_42 (dk_at dksX5_odds_0 17 rfl rfl)
theorem dX5_odds_18 : decode cX5_odds 18 = .ok (.bipush (-2), 2) := dk_16 254 (dk_at dksX5_odds_0 18 rfl rfl)
theorem dX5_odds_20 : decode cX5_odds 20 = .ok (.invokevirtual 89, 3) := dk_182 0 89 (dk_at dksX5_odds_0 20 rfl rfl)
theorem dX5_odds_23 : decode cX5_odds 23 = .ok (.i2l, 1) := dk_133 (dk_at dksX5_odds_0 23 rfl rfl)
theorem dX5_odds_24 : decode cX5_odds 24 = .ok (.lreturn, 1) := dk_173 (dk_at dksX5_odds_1 0 rfl rfl)
theorem dX5_odds_25 : decode cX5_odds 25 = .ok (.aload_n 0, 1) := dk_42 (dk_at dksX5_odds_1 1 rfl rfl)
theorem dX5_odds_26 : decode cX5_odds 26 = .ok (.invokevirtual 296, 3) := dk_182 1 40 (dk_at dksX5_odds_1 2 rfl rfl)
theorem dX5_odds_29 : decode cX5_odds 29 = .ok (.iload_n 1, 1) := dk_27 (dk_at dksX5_odds_1 5 rfl rfl)
theorem dX5_odds_30 : decode cX5_odds 30 = .ok (.iconst 5, 1) := dk_8 (dk_at dksX5_odds_1 6 rfl rfl)
theorem dX5_odds_31 : decode cX5_odds 31 = .ok (.if_icmp .ne 10, 3) := dk_160 0 10 (dk_at dksX5_odds_1 7 rfl rfl)
theorem dX5_odds_34 : decode cX5_odds 34 = .ok (.aload_n 0, 1) := dk_42 (dk_at dksX5_odds_1 10 rfl rfl)
theorem dX5_odds_35 : decode cX5_odds 35 = .ok (.invokevirtual 292, 3) := dk_182 1 36 (dk_at dksX5_odds_1 11 rfl rfl)
theorem dX5_odds_38 : decode cX5_odds 38 = .ok (.goto 9, 3) := dk_167 0 9 (dk_at dksX5_odds_1 14 rfl rfl)
theorem dX5_odds_41 : decode cX5_odds 41 = .ok (.aload_n 0, 1) := dk_42 (dk_at dksX5_odds_1 17 rfl rfl)
theorem dX5_odds_42 : decode cX5_odds 42 = .ok (.getfield 54, 3) := dk_180 0 54 (dk_at dksX5_odds_1 18 rfl rfl)
theorem dX5_odds_45 : decode cX5_odds 45 = .ok (.iload_n 1, 1) := dk_27 (dk_at dksX5_odds_1 21 rfl rfl)
theorem dX5_odds_46 : decode cX5_odds 46 = .ok (.laload, 1) := dk_47 (dk_at dksX5_odds_1 22 rfl rfl)
theorem dX5_odds_47 : decode cX5_odds 47 = .ok (.lreturn, 1) := dk_173 (dk_at dksX5_odds_1 23 rfl rfl)
abbrev cX5_worksOdds : ByteArray := prog_21_method_56_code
def yX5_worksOdds : MethodName := ⟨RX5, "worksOdds", "()V"⟩
def dkwX5_worksOdds_2 : List UInt8 := [167, 255, 233, 42, 3, 182, 0, 240, 42, 3, 42, 182, 1, 36, 182, 1, 32, 177]
abbrev dktX5_worksOdds_2 : List UInt8 := dkwX5_worksOdds_2 ++ []
def dkwX5_worksOdds_1 : List UInt8 := [16, 8, 162, 0, 23, 42, 180, 0, 58, 27, 9, 80, 42, 180, 0, 61, 27, 9, 80, 132, 1, 1]
abbrev dktX5_worksOdds_1 : List UInt8 := dkwX5_worksOdds_1 ++ dktX5_worksOdds_2
def dkwX5_worksOdds_0 : List UInt8 := [3, 60, 27, 8, 162, 0, 16, 42, 180, 0, 54, 27, 9, 80, 132, 1, 1, 167, 255, 241, 3, 60, 27]
abbrev dktX5_worksOdds_0 : List UInt8 := dkwX5_worksOdds_0 ++ dktX5_worksOdds_1
theorem dksX5_worksOdds_0 : cX5_worksOdds.data.toList.drop 0 = dktX5_worksOdds_0 := by decide +kernel
theorem dksX5_worksOdds_1 : cX5_worksOdds.data.toList.drop 23 = dktX5_worksOdds_1 := dk_seg dksX5_worksOdds_0 23 rfl rfl
theorem dksX5_worksOdds_2 : cX5_worksOdds.data.toList.drop 45 = dktX5_worksOdds_2 := dk_seg dksX5_worksOdds_1 22 rfl rfl
theorem dX5_worksOdds_0 : decode cX5_worksOdds 0 = .ok (.iconst 0, 1) := dk_3 (dk_at dksX5_worksOdds_0 0 rfl rfl)
theorem dX5_worksOdds_1 : decode cX5_worksOdds 1 = .ok (.istore_n 1, 1) := dk_60 (dk_at dksX5_worksOdds_0 1 rfl rfl)
theorem dX5_worksOdds_2 : decode cX5_worksOdds 2 = .ok (.iload_n 1, 1) := dk_27 (dk_at dksX5_worksOdds_0 2 rfl rfl)
theorem dX5_worksOdds_3 : decode cX5_worksOdds 3 = .ok (.iconst 5, 1) := dk_8 (dk_at dksX5_worksOdds_0 3 rfl rfl)
theorem dX5_worksOdds_4 : decode cX5_worksOdds 4 = .ok (.if_icmp .ge 16, 3) := dk_162 0 16 (dk_at dksX5_worksOdds_0 4 rfl rfl)
theorem dX5_worksOdds_7 : decode cX5_worksOdds 7 = .ok (.aload_n 0, 1) := dk_42 (dk_at dksX5_worksOdds_0 7 rfl rfl)
theorem dX5_worksOdds_8 : decode cX5_worksOdds 8 = .ok (.getfield 54, 3) := dk_180 0 54 (dk_at dksX5_worksOdds_0 8 rfl rfl)
theorem dX5_worksOdds_11 : decode cX5_worksOdds 11 = .ok (.iload_n 1, 1) := dk_27 (dk_at dksX5_worksOdds_0 11 rfl rfl)
theorem dX5_worksOdds_12 : decode cX5_worksOdds 12 = .ok (.lconst 0, 1) := dk_9 (dk_at dksX5_worksOdds_0 12 rfl rfl)
theorem dX5_worksOdds_13 : decode cX5_worksOdds 13 = .ok (.lastore, 1) := dk_80 (dk_at dksX5_worksOdds_0 13 rfl rfl)
theorem dX5_worksOdds_14 : decode cX5_worksOdds 14 = .ok (.iinc 1 1, 3) := dk_132 1 1 (dk_at dksX5_worksOdds_0 14 rfl rfl)
theorem dX5_worksOdds_17 : decode cX5_worksOdds 17 = .ok (.goto (-15), 3) := dk_167 255 241 (dk_at dksX5_worksOdds_0 17 rfl rfl)
theorem dX5_worksOdds_20 : decode cX5_worksOdds 20 = .ok (.iconst 0, 1) := dk_3 (dk_at dksX5_worksOdds_0 20 rfl rfl)
theorem dX5_worksOdds_21 : decode cX5_worksOdds 21 = .ok (.istore_n 1, 1) := dk_60 (dk_at dksX5_worksOdds_0 21 rfl rfl)
theorem dX5_worksOdds_22 : decode cX5_worksOdds 22 = .ok (.iload_n 1, 1) := dk_27 (dk_at dksX5_worksOdds_0 22 rfl rfl)
theorem dX5_worksOdds_23 : decode cX5_worksOdds 23 = .ok (.bipush 8, 2) := dk_16 8 (dk_at dksX5_worksOdds_1 0 rfl rfl)
theorem dX5_worksOdds_25 : decode cX5_worksOdds 25 = .ok (.if_icmp .ge 23, 3) := dk_162 0 23 (dk_at dksX5_worksOdds_1 2 rfl rfl)
theorem dX5_worksOdds_28 : decode cX5_worksOdds 28 = .ok (.aload_n 0, 1) := dk_42 (dk_at dksX5_worksOdds_1 5 rfl rfl)
theorem dX5_worksOdds_29 : decode cX5_worksOdds 29 = .ok (.getfield 58, 3) := dk_180 0 58 (dk_at dksX5_worksOdds_1 6 rfl rfl)
theorem dX5_worksOdds_32 : decode cX5_worksOdds 32 = .ok (.iload_n 1, 1) := dk_27 (dk_at dksX5_worksOdds_1 9 rfl rfl)
theorem dX5_worksOdds_33 : decode cX5_worksOdds 33 = .ok (.lconst 0, 1) := dk_9 (dk_at dksX5_worksOdds_1 10 rfl rfl)
theorem dX5_worksOdds_34 : decode cX5_worksOdds 34 = .ok (.lastore, 1) := dk_80 (dk_at dksX5_worksOdds_1 11 rfl rfl)
theorem dX5_worksOdds_35 : decode cX5_worksOdds 35 = .ok (.aload_n 0, 1) := dk_42 (dk_at dksX5_worksOdds_1 12 rfl rfl)
theorem dX5_worksOdds_36 : decode cX5_worksOdds 36 = .ok (.getfield 61, 3) := dk_180 0 61 (dk_at dksX5_worksOdds_1 13 rfl rfl)
theorem dX5_worksOdds_39 : decode cX5_worksOdds 39 = .ok (.iload_n 1, 1) := dk_27 (dk_at dksX5_worksOdds_1 16 rfl rfl)
theorem dX5_worksOdds_40 : decode cX5_worksOdds 40 = .ok (.lconst 0, 1) := dk_9 (dk_at dksX5_worksOdds_1 17 rfl rfl)
theorem dX5_worksOdds_41 : decode cX5_worksOdds 41 = .ok (.lastore, 1) := dk_80 (dk_at dksX5_worksOdds_1 18 rfl rfl)
theorem dX5_worksOdds_42 : decode cX5_worksOdds 42 = .ok (.iinc 1 1, 3) := dk_132 1 1 (dk_at dksX5_worksOdds_1 19 rfl rfl)
theorem dX5_worksOdds_45 : decode cX5_worksOdds 45 = .ok (.goto (-23), 3) := dk_167 255 233 (dk_at dksX5_worksOdds_2 0 rfl rfl)
theorem dX5_worksOdds_48 : decode cX5_worksOdds 48 = .ok (.aload_n 0, 1) := dk_42 (dk_at dksX5_worksOdds_2 3 rfl rfl)
theorem dX5_worksOdds_49 : decode cX5_worksOdds 49 = .ok (.iconst 0, 1) := dk_3 (dk_at dksX5_worksOdds_2 4 rfl rfl)
theorem dX5_worksOdds_50 : decode cX5_worksOdds 50 = .ok (.invokevirtual 240, 3) := dk_182 0 240 (dk_at dksX5_worksOdds_2 5 rfl rfl)
theorem dX5_worksOdds_53 : decode cX5_worksOdds 53 = .ok (.aload_n 0, 1) := dk_42 (dk_at dksX5_worksOdds_2 8 rfl rfl)
theorem dX5_worksOdds_54 : decode cX5_worksOdds 54 = .ok (.iconst 0, 1) := dk_3 (dk_at dksX5_worksOdds_2 9 rfl rfl)
theorem dX5_worksOdds_55 : decode cX5_worksOdds 55 = .ok (.aload_n 0, 1) := dk_42 (dk_at dksX5_worksOdds_2 10 rfl rfl)
theorem dX5_worksOdds_56 : decode cX5_worksOdds 56 = .ok (.invokevirtual 292, 3) := dk_182 1 36 (dk_at dksX5_worksOdds_2 11 rfl rfl)
theorem dX5_worksOdds_59 : decode cX5_worksOdds 59 = .ok (.invokevirtual 288, 3) := dk_182 1 32 (dk_at dksX5_worksOdds_2 14 rfl rfl)
theorem dX5_worksOdds_62 : decode cX5_worksOdds 62 = .ok (.return_, 1) := dk_177 (dk_at dksX5_worksOdds_2 17 rfl rfl)
abbrev cX5_allParts : ByteArray := prog_21_method_54_code
def yX5_allParts : MethodName := ⟨RX5, "allParts", "()J"⟩
def dkwX5_allParts_1 : List UInt8 := [167, 255, 237, 31, 173]
abbrev dktX5_allParts_1 : List UInt8 := dkwX5_allParts_1 ++ []
def dkwX5_allParts_0 : List UInt8 := [10, 64, 3, 62, 29, 42, 180, 0, 17, 4, 46, 162, 0, 15, 31, 20, 1, 30, 105, 64, 132, 3, 1]
abbrev dktX5_allParts_0 : List UInt8 := dkwX5_allParts_0 ++ dktX5_allParts_1
theorem dksX5_allParts_0 : cX5_allParts.data.toList.drop 0 = dktX5_allParts_0 := by decide +kernel
theorem dksX5_allParts_1 : cX5_allParts.data.toList.drop 23 = dktX5_allParts_1 := dk_seg dksX5_allParts_0 23 rfl rfl
theorem dX5_allParts_0 : decode cX5_allParts 0 = .ok (.lconst 1, 1) := dk_10 (dk_at dksX5_allParts_0 0 rfl rfl)
theorem dX5_allParts_1 : decode cX5_allParts 1 = .ok (.lstore_n 1, 1) := dk_64 (dk_at dksX5_allParts_0 1 rfl rfl)
theorem dX5_allParts_2 : decode cX5_allParts 2 = .ok (.iconst 0, 1) := dk_3 (dk_at dksX5_allParts_0 2 rfl rfl)
theorem dX5_allParts_3 : decode cX5_allParts 3 = .ok (.istore_n 3, 1) := dk_62 (dk_at dksX5_allParts_0 3 rfl rfl)
theorem dX5_allParts_4 : decode cX5_allParts 4 = .ok (.iload_n 3, 1) := dk_29 (dk_at dksX5_allParts_0 4 rfl rfl)
theorem dX5_allParts_5 : decode cX5_allParts 5 = .ok (.aload_n 0, 1) := dk_42 (dk_at dksX5_allParts_0 5 rfl rfl)
theorem dX5_allParts_6 : decode cX5_allParts 6 = .ok (.getfield 17, 3) := dk_180 0 17 (dk_at dksX5_allParts_0 6 rfl rfl)
theorem dX5_allParts_9 : decode cX5_allParts 9 = .ok (.iconst 1, 1) := dk_4 (dk_at dksX5_allParts_0 9 rfl rfl)
theorem dX5_allParts_10 : decode cX5_allParts 10 = .ok (.iaload, 1) := dk_46 (dk_at dksX5_allParts_0 10 rfl rfl)
theorem dX5_allParts_11 : decode cX5_allParts 11 = .ok (.if_icmp .ge 15, 3) := dk_162 0 15 (dk_at dksX5_allParts_0 11 rfl rfl)
theorem dX5_allParts_14 : decode cX5_allParts 14 = .ok (.lload_n 1, 1) := dk_31 (dk_at dksX5_allParts_0 14 rfl rfl)
theorem dX5_allParts_15 : decode cX5_allParts 15 = .ok (.ldc2_w 286, 3) := dk_20 1 30 (dk_at dksX5_allParts_0 15 rfl rfl)
theorem dX5_allParts_18 : decode cX5_allParts 18 = .ok (.lmul, 1) := dk_105 (dk_at dksX5_allParts_0 18 rfl rfl)
theorem dX5_allParts_19 : decode cX5_allParts 19 = .ok (.lstore_n 1, 1) := dk_64 (dk_at dksX5_allParts_0 19 rfl rfl)
theorem dX5_allParts_20 : decode cX5_allParts 20 = .ok (.iinc 3 1, 3) := dk_132 3 1 (dk_at dksX5_allParts_0 20 rfl rfl)
theorem dX5_allParts_23 : decode cX5_allParts 23 = .ok (.goto (-19), 3) := dk_167 255 237 (dk_at dksX5_allParts_1 0 rfl rfl)
theorem dX5_allParts_26 : decode cX5_allParts 26 = .ok (.lload_n 1, 1) := dk_31 (dk_at dksX5_allParts_1 3 rfl rfl)
theorem dX5_allParts_27 : decode cX5_allParts 27 = .ok (.lreturn, 1) := dk_173 (dk_at dksX5_allParts_1 4 rfl rfl)
abbrev cX5_branches : ByteArray := prog_21_method_55_code
def yX5_branches : MethodName := ⟨RX5, "branches", "(IJ)V"⟩
def dkwX5_branches_13 : List UInt8 := [20, 1, 30, 109, 16, 100, 21, 5, 100, 133, 105, 182, 1, 32, 177]
abbrev dktX5_branches_13 : List UInt8 := dkwX5_branches_13 ++ []
def dkwX5_branches_12 : List UInt8 := [132, 6, 1, 167, 255, 227, 42, 180, 0, 33, 16, 16, 21, 4, 96, 4, 79, 42, 27, 4, 96, 32]
abbrev dktX5_branches_12 : List UInt8 := dkwX5_branches_12 ++ dktX5_branches_13
def dkwX5_branches_11 : List UInt8 := [162, 0, 28, 42, 180, 0, 33, 21, 6, 42, 180, 0, 36, 16, 42, 27, 104, 21, 6, 96, 46, 79]
abbrev dktX5_branches_11 : List UInt8 := dkwX5_branches_11 ++ dktX5_branches_12
def dkwX5_branches_10 : List UInt8 := [42, 27, 4, 96, 32, 20, 1, 30, 109, 21, 5, 133, 105, 182, 1, 32, 3, 54, 6, 21, 6, 16, 42]
abbrev dktX5_branches_10 : List UInt8 := dkwX5_branches_10 ++ dktX5_branches_11
def dkwX5_branches_9 : List UInt8 := [180, 0, 33, 21, 6, 46, 79, 132, 6, 1, 167, 255, 227, 42, 180, 0, 33, 16, 16, 21, 4, 96, 5, 79]
abbrev dktX5_branches_9 : List UInt8 := dkwX5_branches_9 ++ dktX5_branches_10
def dkwX5_branches_8 : List UInt8 := [54, 5, 3, 54, 6, 21, 6, 16, 42, 162, 0, 28, 42, 180, 0, 36, 16, 42, 27, 104, 21, 6, 96, 42]
abbrev dktX5_branches_8 : List UInt8 := dkwX5_branches_8 ++ dktX5_branches_9
def dkwX5_branches_7 : List UInt8 := [96, 46, 5, 160, 0, 7, 32, 167, 0, 4, 9, 97, 80, 132, 5, 1, 167, 255, 213, 177, 42, 180, 0, 249]
abbrev dktX5_branches_7 : List UInt8 := dkwX5_branches_7 ++ dktX5_branches_8
def dkwX5_branches_6 : List UInt8 := [180, 0, 17, 4, 46, 162, 0, 38, 42, 180, 0, 61, 21, 5, 92, 47, 42, 180, 0, 33, 16, 16, 21, 5]
abbrev dktX5_branches_6 : List UInt8 := dkwX5_branches_6 ++ dktX5_branches_7
def dkwX5_branches_5 : List UInt8 := [42, 180, 0, 58, 42, 180, 0, 33, 16, 39, 46, 92, 47, 32, 97, 80, 3, 54, 5, 21, 5, 42]
abbrev dktX5_branches_5 : List UInt8 := dkwX5_branches_5 ++ dktX5_branches_6
def dkwX5_branches_4 : List UInt8 := [47, 32, 42, 180, 0, 33, 16, 38, 46, 133, 105, 97, 80, 42, 180, 0, 33, 16, 39, 46, 2, 159, 0, 19]
abbrev dktX5_branches_4 : List UInt8 := dkwX5_branches_4 ++ dktX5_branches_5
def dkwX5_branches_3 : List UInt8 := [180, 0, 54, 6, 92, 47, 32, 42, 180, 0, 33, 16, 36, 46, 133, 105, 97, 80, 42, 180, 0, 54, 7, 92]
abbrev dktX5_branches_3 : List UInt8 := dkwX5_branches_3 ++ dktX5_branches_4
def dkwX5_branches_2 : List UInt8 := [153, 0, 136, 42, 180, 0, 54, 42, 180, 0, 33, 16, 37, 46, 4, 100, 92, 47, 32, 97, 80, 42]
abbrev dktX5_branches_2 : List UInt8 := dkwX5_branches_2 ++ dktX5_branches_3
def dkwX5_branches_1 : List UInt8 := [54, 4, 21, 4, 2, 160, 255, 230, 42, 182, 1, 16, 167, 255, 223, 42, 180, 0, 33, 16, 37, 46]
abbrev dktX5_branches_1 : List UInt8 := dkwX5_branches_1 ++ dktX5_branches_2
def dkwX5_branches_0 : List UInt8 := [2, 54, 4, 42, 180, 0, 33, 16, 37, 46, 154, 0, 29, 21, 4, 2, 160, 0, 23, 42, 3, 182, 1, 12]
abbrev dktX5_branches_0 : List UInt8 := dkwX5_branches_0 ++ dktX5_branches_1
theorem dksX5_branches_0 : cX5_branches.data.toList.drop 0 = dktX5_branches_0 := by decide +kernel
theorem dksX5_branches_1 : cX5_branches.data.toList.drop 24 = dktX5_branches_1 := dk_seg dksX5_branches_0 24 rfl rfl
theorem dksX5_branches_2 : cX5_branches.data.toList.drop 46 = dktX5_branches_2 := dk_seg dksX5_branches_1 22 rfl rfl
theorem dksX5_branches_3 : cX5_branches.data.toList.drop 68 = dktX5_branches_3 := dk_seg dksX5_branches_2 22 rfl rfl
theorem dksX5_branches_4 : cX5_branches.data.toList.drop 92 = dktX5_branches_4 := dk_seg dksX5_branches_3 24 rfl rfl
theorem dksX5_branches_5 : cX5_branches.data.toList.drop 116 = dktX5_branches_5 := dk_seg dksX5_branches_4 24 rfl rfl
theorem dksX5_branches_6 : cX5_branches.data.toList.drop 138 = dktX5_branches_6 := dk_seg dksX5_branches_5 22 rfl rfl
theorem dksX5_branches_7 : cX5_branches.data.toList.drop 162 = dktX5_branches_7 := dk_seg dksX5_branches_6 24 rfl rfl
theorem dksX5_branches_8 : cX5_branches.data.toList.drop 186 = dktX5_branches_8 := dk_seg dksX5_branches_7 24 rfl rfl
theorem dksX5_branches_9 : cX5_branches.data.toList.drop 210 = dktX5_branches_9 := dk_seg dksX5_branches_8 24 rfl rfl
theorem dksX5_branches_10 : cX5_branches.data.toList.drop 234 = dktX5_branches_10 := dk_seg dksX5_branches_9 24 rfl rfl
theorem dksX5_branches_11 : cX5_branches.data.toList.drop 257 = dktX5_branches_11 := dk_seg dksX5_branches_10 23 rfl rfl
theorem dksX5_branches_12 : cX5_branches.data.toList.drop 279 = dktX5_branches_12 := dk_seg dksX5_branches_11 22 rfl rfl
theorem dksX5_branches_13 : cX5_branches.data.toList.drop 301 = dktX5_branches_13 := dk_seg dksX5_branches_12 22 rfl rfl
theorem dX5_branches_0 : decode cX5_branches 0 = .ok (.iconst (-1), 1) := dk_2 (dk_at dksX5_branches_0 0 rfl rfl)
theorem dX5_branches_1 : decode cX5_branches 1 = .ok (.istore 4, 2) := dk_54 4 (dk_at dksX5_branches_0 1 rfl rfl)
theorem dX5_branches_3 : decode cX5_branches 3 = .ok (.aload_n 0, 1) := dk_42 (dk_at dksX5_branches_0 3 rfl rfl)
theorem dX5_branches_4 : decode cX5_branches 4 = .ok (.getfield 33, 3) := dk_180 0 33 (dk_at dksX5_branches_0 4 rfl rfl)
theorem dX5_branches_7 : decode cX5_branches 7 = .ok (.bipush 37, 2) := dk_16 37 (dk_at dksX5_branches_0 7 rfl rfl)
theorem dX5_branches_9 : decode cX5_branches 9 = .ok (.iaload, 1) := dk_46 (dk_at dksX5_branches_0 9 rfl rfl)
theorem dX5_branches_10 : decode cX5_branches 10 = .ok (.ifCond .ne 29, 3) := dk_154 0 29 (dk_at dksX5_branches_0 10 rfl rfl)
theorem dX5_branches_13 : decode cX5_branches 13 = .ok (.iload 4, 2) := dk_21 4 (dk_at dksX5_branches_0 13 rfl rfl)
theorem dX5_branches_15 : decode cX5_branches 15 = .ok (.iconst (-1), 1) := dk_2 (dk_at dksX5_branches_0 15 rfl rfl)
theorem dX5_branches_16 : decode cX5_branches 16 = .ok (.if_icmp .ne 23, 3) := dk_160 0 23 (dk_at dksX5_branches_0 16 rfl rfl)
theorem dX5_branches_19 : decode cX5_branches 19 = .ok (.aload_n 0, 1) := dk_42 (dk_at dksX5_branches_0 19 rfl rfl)
theorem dX5_branches_20 : decode cX5_branches 20 = .ok (.iconst 0, 1) := dk_3 (dk_at dksX5_branches_0 20 rfl rfl)
theorem dX5_branches_21 : decode cX5_branches 21 = .ok (.invokevirtual 268, 3) := dk_182 1 12 (dk_at dksX5_branches_0 21 rfl rfl)
theorem dX5_branches_24 : decode cX5_branches 24 = .ok (.istore 4, 2) := dk_54 4 (dk_at dksX5_branches_1 0 rfl rfl)
theorem dX5_branches_26 : decode cX5_branches 26 = .ok (.iload 4, 2) := dk_21 4 (dk_at dksX5_branches_1 2 rfl rfl)
theorem dX5_branches_28 : decode cX5_branches 28 = .ok (.iconst (-1), 1) := dk_2 (dk_at dksX5_branches_1 4 rfl rfl)
theorem dX5_branches_29 : decode cX5_branches 29 = .ok (.if_icmp .ne (-26), 3) := dk_160 255 230 (dk_at dksX5_branches_1 5 rfl rfl)
theorem dX5_branches_32 : decode cX5_branches 32 = .ok (.aload_n 0, 1) := dk_42 (dk_at dksX5_branches_1 8 rfl rfl)
theorem dX5_branches_33 : decode cX5_branches 33 = .ok (.invokevirtual 272, 3) := dk_182 1 16 (dk_at dksX5_branches_1 9 rfl rfl)
theorem dX5_branches_36 : decode cX5_branches 36 = .ok (.goto (-33), 3) := dk_167 255 223 (dk_at dksX5_branches_1 12 rfl rfl)
theorem dX5_branches_39 : decode cX5_branches 39 = .ok (.aload_n 0, 1) := dk_42 (dk_at dksX5_branches_1 15 rfl rfl)
theorem dX5_branches_40 : decode cX5_branches 40 = .ok (.getfield 33, 3) := dk_180 0 33 (dk_at dksX5_branches_1 16 rfl rfl)
theorem dX5_branches_43 : decode cX5_branches 43 = .ok (.bipush 37, 2) := dk_16 37 (dk_at dksX5_branches_1 19 rfl rfl)
theorem dX5_branches_45 : decode cX5_branches 45 = .ok (.iaload, 1) := dk_46 (dk_at dksX5_branches_1 21 rfl rfl)
theorem dX5_branches_46 : decode cX5_branches 46 = .ok (.ifCond .eq 136, 3) := dk_153 0 136 (dk_at dksX5_branches_2 0 rfl rfl)
theorem dX5_branches_49 : decode cX5_branches 49 = .ok (.aload_n 0, 1) := dk_42 (dk_at dksX5_branches_2 3 rfl rfl)
theorem dX5_branches_50 : decode cX5_branches 50 = .ok (.getfield 54, 3) := dk_180 0 54 (dk_at dksX5_branches_2 4 rfl rfl)
theorem dX5_branches_53 : decode cX5_branches 53 = .ok (.aload_n 0, 1) := dk_42 (dk_at dksX5_branches_2 7 rfl rfl)
theorem dX5_branches_54 : decode cX5_branches 54 = .ok (.getfield 33, 3) := dk_180 0 33 (dk_at dksX5_branches_2 8 rfl rfl)
theorem dX5_branches_57 : decode cX5_branches 57 = .ok (.bipush 37, 2) := dk_16 37 (dk_at dksX5_branches_2 11 rfl rfl)
theorem dX5_branches_59 : decode cX5_branches 59 = .ok (.iaload, 1) := dk_46 (dk_at dksX5_branches_2 13 rfl rfl)
theorem dX5_branches_60 : decode cX5_branches 60 = .ok (.iconst 1, 1) := dk_4 (dk_at dksX5_branches_2 14 rfl rfl)
theorem dX5_branches_61 : decode cX5_branches 61 = .ok (.isub, 1) := dk_100 (dk_at dksX5_branches_2 15 rfl rfl)
theorem dX5_branches_62 : decode cX5_branches 62 = .ok (.dup2, 1) := dk_92 (dk_at dksX5_branches_2 16 rfl rfl)
theorem dX5_branches_63 : decode cX5_branches 63 = .ok (.laload, 1) := dk_47 (dk_at dksX5_branches_2 17 rfl rfl)
theorem dX5_branches_64 : decode cX5_branches 64 = .ok (.lload_n 2, 1) := dk_32 (dk_at dksX5_branches_2 18 rfl rfl)
theorem dX5_branches_65 : decode cX5_branches 65 = .ok (.ladd, 1) := dk_97 (dk_at dksX5_branches_2 19 rfl rfl)
theorem dX5_branches_66 : decode cX5_branches 66 = .ok (.lastore, 1) := dk_80 (dk_at dksX5_branches_2 20 rfl rfl)
theorem dX5_branches_67 : decode cX5_branches 67 = .ok (.aload_n 0, 1) := dk_42 (dk_at dksX5_branches_2 21 rfl rfl)
theorem dX5_branches_68 : decode cX5_branches 68 = .ok (.getfield 54, 3) := dk_180 0 54 (dk_at dksX5_branches_3 0 rfl rfl)
theorem dX5_branches_71 : decode cX5_branches 71 = .ok (.iconst 3, 1) := dk_6 (dk_at dksX5_branches_3 3 rfl rfl)
theorem dX5_branches_72 : decode cX5_branches 72 = .ok (.dup2, 1) := dk_92 (dk_at dksX5_branches_3 4 rfl rfl)
theorem dX5_branches_73 : decode cX5_branches 73 = .ok (.laload, 1) := dk_47 (dk_at dksX5_branches_3 5 rfl rfl)
theorem dX5_branches_74 : decode cX5_branches 74 = .ok (.lload_n 2, 1) := dk_32 (dk_at dksX5_branches_3 6 rfl rfl)
theorem dX5_branches_75 : decode cX5_branches 75 = .ok (.aload_n 0, 1) := dk_42 (dk_at dksX5_branches_3 7 rfl rfl)
theorem dX5_branches_76 : decode cX5_branches 76 = .ok (.getfield 33, 3) := dk_180 0 33 (dk_at dksX5_branches_3 8 rfl rfl)
theorem dX5_branches_79 : decode cX5_branches 79 = .ok (.bipush 36, 2) := dk_16 36 (dk_at dksX5_branches_3 11 rfl rfl)
theorem dX5_branches_81 : decode cX5_branches 81 = .ok (.iaload, 1) := dk_46 (dk_at dksX5_branches_3 13 rfl rfl)
theorem dX5_branches_82 : decode cX5_branches 82 = .ok (.i2l, 1) := dk_133 (dk_at dksX5_branches_3 14 rfl rfl)
theorem dX5_branches_83 : decode cX5_branches 83 = .ok (.lmul, 1) := dk_105 (dk_at dksX5_branches_3 15 rfl rfl)
theorem dX5_branches_84 : decode cX5_branches 84 = .ok (.ladd, 1) := dk_97 (dk_at dksX5_branches_3 16 rfl rfl)
theorem dX5_branches_85 : decode cX5_branches 85 = .ok (.lastore, 1) := dk_80 (dk_at dksX5_branches_3 17 rfl rfl)
theorem dX5_branches_86 : decode cX5_branches 86 = .ok (.aload_n 0, 1) := dk_42 (dk_at dksX5_branches_3 18 rfl rfl)
theorem dX5_branches_87 : decode cX5_branches 87 = .ok (.getfield 54, 3) := dk_180 0 54 (dk_at dksX5_branches_3 19 rfl rfl)
theorem dX5_branches_90 : decode cX5_branches 90 = .ok (.iconst 4, 1) := dk_7 (dk_at dksX5_branches_3 22 rfl rfl)
theorem dX5_branches_91 : decode cX5_branches 91 = .ok (.dup2, 1) := dk_92 (dk_at dksX5_branches_3 23 rfl rfl)
theorem dX5_branches_92 : decode cX5_branches 92 = .ok (.laload, 1) := dk_47 (dk_at dksX5_branches_4 0 rfl rfl)
theorem dX5_branches_93 : decode cX5_branches 93 = .ok (.lload_n 2, 1) := dk_32 (dk_at dksX5_branches_4 1 rfl rfl)
theorem dX5_branches_94 : decode cX5_branches 94 = .ok (.aload_n 0, 1) := dk_42 (dk_at dksX5_branches_4 2 rfl rfl)
theorem dX5_branches_95 : decode cX5_branches 95 = .ok (.getfield 33, 3) := dk_180 0 33 (dk_at dksX5_branches_4 3 rfl rfl)
theorem dX5_branches_98 : decode cX5_branches 98 = .ok (.bipush 38, 2) := dk_16 38 (dk_at dksX5_branches_4 6 rfl rfl)
theorem dX5_branches_100 : decode cX5_branches 100 = .ok (.iaload, 1) := dk_46 (dk_at dksX5_branches_4 8 rfl rfl)
theorem dX5_branches_101 : decode cX5_branches 101 = .ok (.i2l, 1) := dk_133 (dk_at dksX5_branches_4 9 rfl rfl)
theorem dX5_branches_102 : decode cX5_branches 102 = .ok (.lmul, 1) := dk_105 (dk_at dksX5_branches_4 10 rfl rfl)
theorem dX5_branches_103 : decode cX5_branches 103 = .ok (.ladd, 1) := dk_97 (dk_at dksX5_branches_4 11 rfl rfl)
theorem dX5_branches_104 : decode cX5_branches 104 = .ok (.lastore, 1) := dk_80 (dk_at dksX5_branches_4 12 rfl rfl)
theorem dX5_branches_105 : decode cX5_branches 105 = .ok (.aload_n 0, 1) := dk_42 (dk_at dksX5_branches_4 13 rfl rfl)
theorem dX5_branches_106 : decode cX5_branches 106 = .ok (.getfield 33, 3) := dk_180 0 33 (dk_at dksX5_branches_4 14 rfl rfl)
theorem dX5_branches_109 : decode cX5_branches 109 = .ok (.bipush 39, 2) := dk_16 39 (dk_at dksX5_branches_4 17 rfl rfl)
theorem dX5_branches_111 : decode cX5_branches 111 = .ok (.iaload, 1) := dk_46 (dk_at dksX5_branches_4 19 rfl rfl)
theorem dX5_branches_112 : decode cX5_branches 112 = .ok (.iconst (-1), 1) := dk_2 (dk_at dksX5_branches_4 20 rfl rfl)
theorem dX5_branches_113 : decode cX5_branches 113 = .ok (.if_icmp .eq 19, 3) := dk_159 0 19 (dk_at dksX5_branches_4 21 rfl rfl)
theorem dX5_branches_116 : decode cX5_branches 116 = .ok (.aload_n 0, 1) := dk_42 (dk_at dksX5_branches_5 0 rfl rfl)
theorem dX5_branches_117 : decode cX5_branches 117 = .ok (.getfield 58, 3) := dk_180 0 58 (dk_at dksX5_branches_5 1 rfl rfl)
theorem dX5_branches_120 : decode cX5_branches 120 = .ok (.aload_n 0, 1) := dk_42 (dk_at dksX5_branches_5 4 rfl rfl)
theorem dX5_branches_121 : decode cX5_branches 121 = .ok (.getfield 33, 3) := dk_180 0 33 (dk_at dksX5_branches_5 5 rfl rfl)
theorem dX5_branches_124 : decode cX5_branches 124 = .ok (.bipush 39, 2) := dk_16 39 (dk_at dksX5_branches_5 8 rfl rfl)
theorem dX5_branches_126 : decode cX5_branches 126 = .ok (.iaload, 1) := dk_46 (dk_at dksX5_branches_5 10 rfl rfl)
theorem dX5_branches_127 : decode cX5_branches 127 = .ok (.dup2, 1) := dk_92 (dk_at dksX5_branches_5 11 rfl rfl)
theorem dX5_branches_128 : decode cX5_branches 128 = .ok (.laload, 1) := dk_47 (dk_at dksX5_branches_5 12 rfl rfl)
theorem dX5_branches_129 : decode cX5_branches 129 = .ok (.lload_n 2, 1) := dk_32 (dk_at dksX5_branches_5 13 rfl rfl)
theorem dX5_branches_130 : decode cX5_branches 130 = .ok (.ladd, 1) := dk_97 (dk_at dksX5_branches_5 14 rfl rfl)
theorem dX5_branches_131 : decode cX5_branches 131 = .ok (.lastore, 1) := dk_80 (dk_at dksX5_branches_5 15 rfl rfl)
theorem dX5_branches_132 : decode cX5_branches 132 = .ok (.iconst 0, 1) := dk_3 (dk_at dksX5_branches_5 16 rfl rfl)
theorem dX5_branches_133 : decode cX5_branches 133 = .ok (.istore 5, 2) := dk_54 5 (dk_at dksX5_branches_5 17 rfl rfl)
theorem dX5_branches_135 : decode cX5_branches 135 = .ok (.iload 5, 2) := dk_21 5 (dk_at dksX5_branches_5 19 rfl rfl)
theorem dX5_branches_137 : decode cX5_branches 137 = .ok (.aload_n 0, 1) := dk_42 (dk_at dksX5_branches_5 21 rfl rfl)
theorem dX5_branches_138 : decode cX5_branches 138 = .ok (.getfield 17, 3) := dk_180 0 17 (dk_at dksX5_branches_6 0 rfl rfl)
theorem dX5_branches_141 : decode cX5_branches 141 = .ok (.iconst 1, 1) := dk_4 (dk_at dksX5_branches_6 3 rfl rfl)
theorem dX5_branches_142 : decode cX5_branches 142 = .ok (.iaload, 1) := dk_46 (dk_at dksX5_branches_6 4 rfl rfl)
theorem dX5_branches_143 : decode cX5_branches 143 = .ok (.if_icmp .ge 38, 3) := dk_162 0 38 (dk_at dksX5_branches_6 5 rfl rfl)
theorem dX5_branches_146 : decode cX5_branches 146 = .ok (.aload_n 0, 1) := dk_42 (dk_at dksX5_branches_6 8 rfl rfl)
theorem dX5_branches_147 : decode cX5_branches 147 = .ok (.getfield 61, 3) := dk_180 0 61 (dk_at dksX5_branches_6 9 rfl rfl)
theorem dX5_branches_150 : decode cX5_branches 150 = .ok (.iload 5, 2) := dk_21 5 (dk_at dksX5_branches_6 12 rfl rfl)
theorem dX5_branches_152 : decode cX5_branches 152 = .ok (.dup2, 1) := dk_92 (dk_at dksX5_branches_6 14 rfl rfl)
theorem dX5_branches_153 : decode cX5_branches 153 = .ok (.laload, 1) := dk_47 (dk_at dksX5_branches_6 15 rfl rfl)
theorem dX5_branches_154 : decode cX5_branches 154 = .ok (.aload_n 0, 1) := dk_42 (dk_at dksX5_branches_6 16 rfl rfl)
theorem dX5_branches_155 : decode cX5_branches 155 = .ok (.getfield 33, 3) := dk_180 0 33 (dk_at dksX5_branches_6 17 rfl rfl)
theorem dX5_branches_158 : decode cX5_branches 158 = .ok (.bipush 16, 2) := dk_16 16 (dk_at dksX5_branches_6 20 rfl rfl)
theorem dX5_branches_160 : decode cX5_branches 160 = .ok (.iload 5, 2) := dk_21 5 (dk_at dksX5_branches_6 22 rfl rfl)
theorem dX5_branches_162 : decode cX5_branches 162 = .ok (.iadd, 1) := dk_96 (dk_at dksX5_branches_7 0 rfl rfl)
theorem dX5_branches_163 : decode cX5_branches 163 = .ok (.iaload, 1) := dk_46 (dk_at dksX5_branches_7 1 rfl rfl)
theorem dX5_branches_164 : decode cX5_branches 164 = .ok (.iconst 2, 1) := dk_5 (dk_at dksX5_branches_7 2 rfl rfl)
theorem dX5_branches_165 : decode cX5_branches 165 = .ok (.if_icmp .ne 7, 3) := dk_160 0 7 (dk_at dksX5_branches_7 3 rfl rfl)
theorem dX5_branches_168 : decode cX5_branches 168 = .ok (.lload_n 2, 1) := dk_32 (dk_at dksX5_branches_7 6 rfl rfl)
theorem dX5_branches_169 : decode cX5_branches 169 = .ok (.goto 4, 3) := dk_167 0 4 (dk_at dksX5_branches_7 7 rfl rfl)
theorem dX5_branches_172 : decode cX5_branches 172 = .ok (.lconst 0, 1) := dk_9 (dk_at dksX5_branches_7 10 rfl rfl)
theorem dX5_branches_173 : decode cX5_branches 173 = .ok (.ladd, 1) := dk_97 (dk_at dksX5_branches_7 11 rfl rfl)
theorem dX5_branches_174 : decode cX5_branches 174 = .ok (.lastore, 1) := dk_80 (dk_at dksX5_branches_7 12 rfl rfl)
theorem dX5_branches_175 : decode cX5_branches 175 = .ok (.iinc 5 1, 3) := dk_132 5 1 (dk_at dksX5_branches_7 13 rfl rfl)
theorem dX5_branches_178 : decode cX5_branches 178 = .ok (.goto (-43), 3) := dk_167 255 213 (dk_at dksX5_branches_7 16 rfl rfl)
theorem dX5_branches_181 : decode cX5_branches 181 = .ok (.return_, 1) := dk_177 (dk_at dksX5_branches_7 19 rfl rfl)
theorem dX5_branches_182 : decode cX5_branches 182 = .ok (.aload_n 0, 1) := dk_42 (dk_at dksX5_branches_7 20 rfl rfl)
theorem dX5_branches_183 : decode cX5_branches 183 = .ok (.getfield 249, 3) := dk_180 0 249 (dk_at dksX5_branches_7 21 rfl rfl)
theorem dX5_branches_186 : decode cX5_branches 186 = .ok (.istore 5, 2) := dk_54 5 (dk_at dksX5_branches_8 0 rfl rfl)
theorem dX5_branches_188 : decode cX5_branches 188 = .ok (.iconst 0, 1) := dk_3 (dk_at dksX5_branches_8 2 rfl rfl)
theorem dX5_branches_189 : decode cX5_branches 189 = .ok (.istore 6, 2) := dk_54 6 (dk_at dksX5_branches_8 3 rfl rfl)
theorem dX5_branches_191 : decode cX5_branches 191 = .ok (.iload 6, 2) := dk_21 6 (dk_at dksX5_branches_8 5 rfl rfl)
theorem dX5_branches_193 : decode cX5_branches 193 = .ok (.bipush 42, 2) := dk_16 42 (dk_at dksX5_branches_8 7 rfl rfl)
theorem dX5_branches_195 : decode cX5_branches 195 = .ok (.if_icmp .ge 28, 3) := dk_162 0 28 (dk_at dksX5_branches_8 9 rfl rfl)
theorem dX5_branches_198 : decode cX5_branches 198 = .ok (.aload_n 0, 1) := dk_42 (dk_at dksX5_branches_8 12 rfl rfl)
theorem dX5_branches_199 : decode cX5_branches 199 = .ok (.getfield 36, 3) := dk_180 0 36 (dk_at dksX5_branches_8 13 rfl rfl)
theorem dX5_branches_202 : decode cX5_branches 202 = .ok (.bipush 42, 2) := dk_16 42 (dk_at dksX5_branches_8 16 rfl rfl)
theorem dX5_branches_204 : decode cX5_branches 204 = .ok (.iload_n 1, 1) := dk_27 (dk_at dksX5_branches_8 18 rfl rfl)
theorem dX5_branches_205 : decode cX5_branches 205 = .ok (.imul, 1) := dk_104 (dk_at dksX5_branches_8 19 rfl rfl)
theorem dX5_branches_206 : decode cX5_branches 206 = .ok (.iload 6, 2) := dk_21 6 (dk_at dksX5_branches_8 20 rfl rfl)
theorem dX5_branches_208 : decode cX5_branches 208 = .ok (.iadd, 1) := dk_96 (dk_at dksX5_branches_8 22 rfl rfl)
theorem dX5_branches_209 : decode cX5_branches 209 = .ok (.aload_n 0, 1) := dk_42 (dk_at dksX5_branches_8 23 rfl rfl)
theorem dX5_branches_210 : decode cX5_branches 210 = .ok (.getfield 33, 3) := dk_180 0 33 (dk_at dksX5_branches_9 0 rfl rfl)
theorem dX5_branches_213 : decode cX5_branches 213 = .ok (.iload 6, 2) := dk_21 6 (dk_at dksX5_branches_9 3 rfl rfl)
theorem dX5_branches_215 : decode cX5_branches 215 = .ok (.iaload, 1) := dk_46 (dk_at dksX5_branches_9 5 rfl rfl)
theorem dX5_branches_216 : decode cX5_branches 216 = .ok (.iastore, 1) := dk_79 (dk_at dksX5_branches_9 6 rfl rfl)
theorem dX5_branches_217 : decode cX5_branches 217 = .ok (.iinc 6 1, 3) := dk_132 6 1 (dk_at dksX5_branches_9 7 rfl rfl)
theorem dX5_branches_220 : decode cX5_branches 220 = .ok (.goto (-29), 3) := dk_167 255 227 (dk_at dksX5_branches_9 10 rfl rfl)
theorem dX5_branches_223 : decode cX5_branches 223 = .ok (.aload_n 0, 1) := dk_42 (dk_at dksX5_branches_9 13 rfl rfl)
theorem dX5_branches_224 : decode cX5_branches 224 = .ok (.getfield 33, 3) := dk_180 0 33 (dk_at dksX5_branches_9 14 rfl rfl)
theorem dX5_branches_227 : decode cX5_branches 227 = .ok (.bipush 16, 2) := dk_16 16 (dk_at dksX5_branches_9 17 rfl rfl)
theorem dX5_branches_229 : decode cX5_branches 229 = .ok (.iload 4, 2) := dk_21 4 (dk_at dksX5_branches_9 19 rfl rfl)
theorem dX5_branches_231 : decode cX5_branches 231 = .ok (.iadd, 1) := dk_96 (dk_at dksX5_branches_9 21 rfl rfl)
theorem dX5_branches_232 : decode cX5_branches 232 = .ok (.iconst 2, 1) := dk_5 (dk_at dksX5_branches_9 22 rfl rfl)
theorem dX5_branches_233 : decode cX5_branches 233 = .ok (.iastore, 1) := dk_79 (dk_at dksX5_branches_9 23 rfl rfl)
theorem dX5_branches_234 : decode cX5_branches 234 = .ok (.aload_n 0, 1) := dk_42 (dk_at dksX5_branches_10 0 rfl rfl)
theorem dX5_branches_235 : decode cX5_branches 235 = .ok (.iload_n 1, 1) := dk_27 (dk_at dksX5_branches_10 1 rfl rfl)
theorem dX5_branches_236 : decode cX5_branches 236 = .ok (.iconst 1, 1) := dk_4 (dk_at dksX5_branches_10 2 rfl rfl)
theorem dX5_branches_237 : decode cX5_branches 237 = .ok (.iadd, 1) := dk_96 (dk_at dksX5_branches_10 3 rfl rfl)
theorem dX5_branches_238 : decode cX5_branches 238 = .ok (.lload_n 2, 1) := dk_32 (dk_at dksX5_branches_10 4 rfl rfl)
theorem dX5_branches_239 : decode cX5_branches 239 = .ok (.ldc2_w 286, 3) := dk_20 1 30 (dk_at dksX5_branches_10 5 rfl rfl)
theorem dX5_branches_242 : decode cX5_branches 242 = .ok (.ldiv, 1) := dk_109 (dk_at dksX5_branches_10 8 rfl rfl)
theorem dX5_branches_243 : decode cX5_branches 243 = .ok (.iload 5, 2) := dk_21 5 (dk_at dksX5_branches_10 9 rfl rfl)
theorem dX5_branches_245 : decode cX5_branches 245 = .ok (.i2l, 1) := dk_133 (dk_at dksX5_branches_10 11 rfl rfl)
theorem dX5_branches_246 : decode cX5_branches 246 = .ok (.lmul, 1) := dk_105 (dk_at dksX5_branches_10 12 rfl rfl)
theorem dX5_branches_247 : decode cX5_branches 247 = .ok (.invokevirtual 288, 3) := dk_182 1 32 (dk_at dksX5_branches_10 13 rfl rfl)
theorem dX5_branches_250 : decode cX5_branches 250 = .ok (.iconst 0, 1) := dk_3 (dk_at dksX5_branches_10 16 rfl rfl)
theorem dX5_branches_251 : decode cX5_branches 251 = .ok (.istore 6, 2) := dk_54 6 (dk_at dksX5_branches_10 17 rfl rfl)
theorem dX5_branches_253 : decode cX5_branches 253 = .ok (.iload 6, 2) := dk_21 6 (dk_at dksX5_branches_10 19 rfl rfl)
theorem dX5_branches_255 : decode cX5_branches 255 = .ok (.bipush 42, 2) := dk_16 42 (dk_at dksX5_branches_10 21 rfl rfl)
theorem dX5_branches_257 : decode cX5_branches 257 = .ok (.if_icmp .ge 28, 3) := dk_162 0 28 (dk_at dksX5_branches_11 0 rfl rfl)
theorem dX5_branches_260 : decode cX5_branches 260 = .ok (.aload_n 0, 1) := dk_42 (dk_at dksX5_branches_11 3 rfl rfl)
theorem dX5_branches_261 : decode cX5_branches 261 = .ok (.getfield 33, 3) := dk_180 0 33 (dk_at dksX5_branches_11 4 rfl rfl)
theorem dX5_branches_264 : decode cX5_branches 264 = .ok (.iload 6, 2) := dk_21 6 (dk_at dksX5_branches_11 7 rfl rfl)
theorem dX5_branches_266 : decode cX5_branches 266 = .ok (.aload_n 0, 1) := dk_42 (dk_at dksX5_branches_11 9 rfl rfl)
theorem dX5_branches_267 : decode cX5_branches 267 = .ok (.getfield 36, 3) := dk_180 0 36 (dk_at dksX5_branches_11 10 rfl rfl)
theorem dX5_branches_270 : decode cX5_branches 270 = .ok (.bipush 42, 2) := dk_16 42 (dk_at dksX5_branches_11 13 rfl rfl)
theorem dX5_branches_272 : decode cX5_branches 272 = .ok (.iload_n 1, 1) := dk_27 (dk_at dksX5_branches_11 15 rfl rfl)
theorem dX5_branches_273 : decode cX5_branches 273 = .ok (.imul, 1) := dk_104 (dk_at dksX5_branches_11 16 rfl rfl)
theorem dX5_branches_274 : decode cX5_branches 274 = .ok (.iload 6, 2) := dk_21 6 (dk_at dksX5_branches_11 17 rfl rfl)
theorem dX5_branches_276 : decode cX5_branches 276 = .ok (.iadd, 1) := dk_96 (dk_at dksX5_branches_11 19 rfl rfl)
theorem dX5_branches_277 : decode cX5_branches 277 = .ok (.iaload, 1) := dk_46 (dk_at dksX5_branches_11 20 rfl rfl)
theorem dX5_branches_278 : decode cX5_branches 278 = .ok (.iastore, 1) := dk_79 (dk_at dksX5_branches_11 21 rfl rfl)
theorem dX5_branches_279 : decode cX5_branches 279 = .ok (.iinc 6 1, 3) := dk_132 6 1 (dk_at dksX5_branches_12 0 rfl rfl)
theorem dX5_branches_282 : decode cX5_branches 282 = .ok (.goto (-29), 3) := dk_167 255 227 (dk_at dksX5_branches_12 3 rfl rfl)
theorem dX5_branches_285 : decode cX5_branches 285 = .ok (.aload_n 0, 1) := dk_42 (dk_at dksX5_branches_12 6 rfl rfl)
theorem dX5_branches_286 : decode cX5_branches 286 = .ok (.getfield 33, 3) := dk_180 0 33 (dk_at dksX5_branches_12 7 rfl rfl)
theorem dX5_branches_289 : decode cX5_branches 289 = .ok (.bipush 16, 2) := dk_16 16 (dk_at dksX5_branches_12 10 rfl rfl)
theorem dX5_branches_291 : decode cX5_branches 291 = .ok (.iload 4, 2) := dk_21 4 (dk_at dksX5_branches_12 12 rfl rfl)
theorem dX5_branches_293 : decode cX5_branches 293 = .ok (.iadd, 1) := dk_96 (dk_at dksX5_branches_12 14 rfl rfl)
theorem dX5_branches_294 : decode cX5_branches 294 = .ok (.iconst 1, 1) := dk_4 (dk_at dksX5_branches_12 15 rfl rfl)
theorem dX5_branches_295 : decode cX5_branches 295 = .ok (.iastore, 1) := dk_79 (dk_at dksX5_branches_12 16 rfl rfl)
theorem dX5_branches_296 : decode cX5_branches 296 = .ok (.aload_n 0, 1) := dk_42 (dk_at dksX5_branches_12 17 rfl rfl)
theorem dX5_branches_297 : decode cX5_branches 297 = .ok (.iload_n 1, 1) := dk_27 (dk_at dksX5_branches_12 18 rfl rfl)
theorem dX5_branches_298 : decode cX5_branches 298 = .ok (.iconst 1, 1) := dk_4 (dk_at dksX5_branches_12 19 rfl rfl)
theorem dX5_branches_299 : decode cX5_branches 299 = .ok (.iadd, 1) := dk_96 (dk_at dksX5_branches_12 20 rfl rfl)
theorem dX5_branches_300 : decode cX5_branches 300 = .ok (.lload_n 2, 1) := dk_32 (dk_at dksX5_branches_12 21 rfl rfl)
theorem dX5_branches_301 : decode cX5_branches 301 = .ok (.ldc2_w 286, 3) := dk_20 1 30 (dk_at dksX5_branches_13 0 rfl rfl)
theorem dX5_branches_304 : decode cX5_branches 304 = .ok (.ldiv, 1) := dk_109 (dk_at dksX5_branches_13 3 rfl rfl)
theorem dX5_branches_305 : decode cX5_branches 305 = .ok (.bipush 100, 2) := dk_16 100 (dk_at dksX5_branches_13 4 rfl rfl)
theorem dX5_branches_307 : decode cX5_branches 307 = .ok (.iload 5, 2) := dk_21 5 (dk_at dksX5_branches_13 6 rfl rfl)
theorem dX5_branches_309 : decode cX5_branches 309 = .ok (.isub, 1) := dk_100 (dk_at dksX5_branches_13 8 rfl rfl)
theorem dX5_branches_310 : decode cX5_branches 310 = .ok (.i2l, 1) := dk_133 (dk_at dksX5_branches_13 9 rfl rfl)
theorem dX5_branches_311 : decode cX5_branches 311 = .ok (.lmul, 1) := dk_105 (dk_at dksX5_branches_13 10 rfl rfl)
theorem dX5_branches_312 : decode cX5_branches 312 = .ok (.invokevirtual 288, 3) := dk_182 1 32 (dk_at dksX5_branches_13 11 rfl rfl)
theorem dX5_branches_315 : decode cX5_branches 315 = .ok (.return_, 1) := dk_177 (dk_at dksX5_branches_13 14 rfl rfl)
abbrev cX5_helps : ByteArray := prog_21_method_59_code
def yX5_helps : MethodName := ⟨RX5, "helps", "(I)J"⟩
def dkwX5_helps_1 : List UInt8 := [173, 42, 4, 27, 120, 182, 1, 43, 65, 32, 42, 3, 182, 1, 43, 101, 173]
abbrev dktX5_helps_1 : List UInt8 := dkwX5_helps_1 ++ []
def dkwX5_helps_0 : List UInt8 := [42, 3, 181, 0, 1, 27, 133, 9, 20, 0, 215, 184, 0, 152, 154, 0, 11, 42, 16, 254, 182, 0, 89, 133]
abbrev dktX5_helps_0 : List UInt8 := dkwX5_helps_0 ++ dktX5_helps_1
theorem dksX5_helps_0 : cX5_helps.data.toList.drop 0 = dktX5_helps_0 := by decide +kernel
theorem dksX5_helps_1 : cX5_helps.data.toList.drop 24 = dktX5_helps_1 := dk_seg dksX5_helps_0 24 rfl rfl
theorem dX5_helps_0 : decode cX5_helps 0 = .ok (.aload_n 0, 1) := dk_42 (dk_at dksX5_helps_0 0 rfl rfl)
theorem dX5_helps_1 : decode cX5_helps 1 = .ok (.iconst 0, 1) := dk_3 (dk_at dksX5_helps_0 1 rfl rfl)
theorem dX5_helps_2 : decode cX5_helps 2 = .ok (.putfield 1, 3) := dk_181 0 1 (dk_at dksX5_helps_0 2 rfl rfl)
theorem dX5_helps_5 : decode cX5_helps 5 = .ok (.iload_n 1, 1) := dk_27 (dk_at dksX5_helps_0 5 rfl rfl)
theorem dX5_helps_6 : decode cX5_helps 6 = .ok (.i2l, 1) := dk_133 (dk_at dksX5_helps_0 6 rfl rfl)
theorem dX5_helps_7 : decode cX5_helps 7 = .ok (.lconst 0, 1) := dk_9 (dk_at dksX5_helps_0 7 rfl rfl)
theorem dX5_helps_8 : decode cX5_helps 8 = .ok (.ldc2_w 215, 3) := dk_20 0 215 (dk_at dksX5_helps_0 8 rfl rfl)
theorem dX5_helps_11 : decode cX5_helps 11 = .ok (.invokestatic 152, 3) := dk_184 0 152 (dk_at dksX5_helps_0 11 rfl rfl)
theorem dX5_helps_14 : decode cX5_helps 14 = .ok (.ifCond .ne 11, 3) := dk_154 0 11 (dk_at dksX5_helps_0 14 rfl rfl)
theorem dX5_helps_17 : decode cX5_helps 17 = .ok (.aload_n 0, 1) := dk_42 (dk_at dksX5_helps_0 17 rfl rfl)
theorem dX5_helps_18 : decode cX5_helps 18 = .ok (.bipush (-2), 2) := dk_16 254 (dk_at dksX5_helps_0 18 rfl rfl)
theorem dX5_helps_20 : decode cX5_helps 20 = .ok (.invokevirtual 89, 3) := dk_182 0 89 (dk_at dksX5_helps_0 20 rfl rfl)
theorem dX5_helps_23 : decode cX5_helps 23 = .ok (.i2l, 1) := dk_133 (dk_at dksX5_helps_0 23 rfl rfl)
theorem dX5_helps_24 : decode cX5_helps 24 = .ok (.lreturn, 1) := dk_173 (dk_at dksX5_helps_1 0 rfl rfl)
theorem dX5_helps_25 : decode cX5_helps 25 = .ok (.aload_n 0, 1) := dk_42 (dk_at dksX5_helps_1 1 rfl rfl)
theorem dX5_helps_26 : decode cX5_helps 26 = .ok (.iconst 1, 1) := dk_4 (dk_at dksX5_helps_1 2 rfl rfl)
theorem dX5_helps_27 : decode cX5_helps 27 = .ok (.iload_n 1, 1) := dk_27 (dk_at dksX5_helps_1 3 rfl rfl)
theorem dX5_helps_28 : decode cX5_helps 28 = .ok (.ishl, 1) := dk_120 (dk_at dksX5_helps_1 4 rfl rfl)
theorem dX5_helps_29 : decode cX5_helps 29 = .ok (.invokevirtual 299, 3) := dk_182 1 43 (dk_at dksX5_helps_1 5 rfl rfl)
theorem dX5_helps_32 : decode cX5_helps 32 = .ok (.lstore_n 2, 1) := dk_65 (dk_at dksX5_helps_1 8 rfl rfl)
theorem dX5_helps_33 : decode cX5_helps 33 = .ok (.lload_n 2, 1) := dk_32 (dk_at dksX5_helps_1 9 rfl rfl)
theorem dX5_helps_34 : decode cX5_helps 34 = .ok (.aload_n 0, 1) := dk_42 (dk_at dksX5_helps_1 10 rfl rfl)
theorem dX5_helps_35 : decode cX5_helps 35 = .ok (.iconst 0, 1) := dk_3 (dk_at dksX5_helps_1 11 rfl rfl)
theorem dX5_helps_36 : decode cX5_helps 36 = .ok (.invokevirtual 299, 3) := dk_182 1 43 (dk_at dksX5_helps_1 12 rfl rfl)
theorem dX5_helps_39 : decode cX5_helps 39 = .ok (.lsub, 1) := dk_101 (dk_at dksX5_helps_1 15 rfl rfl)
theorem dX5_helps_40 : decode cX5_helps 40 = .ok (.lreturn, 1) := dk_173 (dk_at dksX5_helps_1 16 rfl rfl)
abbrev cX5_overIf : ByteArray := prog_21_method_58_code
def yX5_overIf : MethodName := ⟨RX5, "overIf", "(I)J"⟩
def dkwX5_overIf_1 : List UInt8 := [180, 0, 17, 16, 34, 28, 79, 42, 180, 0, 54, 3, 47, 173]
abbrev dktX5_overIf_1 : List UInt8 := dkwX5_overIf_1 ++ []
def dkwX5_overIf_0 : List UInt8 := [42, 180, 0, 17, 16, 34, 46, 61, 42, 180, 0, 17, 16, 34, 92, 46, 27, 130, 79, 42, 182, 1, 40, 42]
abbrev dktX5_overIf_0 : List UInt8 := dkwX5_overIf_0 ++ dktX5_overIf_1
theorem dksX5_overIf_0 : cX5_overIf.data.toList.drop 0 = dktX5_overIf_0 := by decide +kernel
theorem dksX5_overIf_1 : cX5_overIf.data.toList.drop 24 = dktX5_overIf_1 := dk_seg dksX5_overIf_0 24 rfl rfl
theorem dX5_overIf_0 : decode cX5_overIf 0 = .ok (.aload_n 0, 1) := dk_42 (dk_at dksX5_overIf_0 0 rfl rfl)
theorem dX5_overIf_1 : decode cX5_overIf 1 = .ok (.getfield 17, 3) := dk_180 0 17 (dk_at dksX5_overIf_0 1 rfl rfl)
theorem dX5_overIf_4 : decode cX5_overIf 4 = .ok (.bipush 34, 2) := dk_16 34 (dk_at dksX5_overIf_0 4 rfl rfl)
theorem dX5_overIf_6 : decode cX5_overIf 6 = .ok (.iaload, 1) := dk_46 (dk_at dksX5_overIf_0 6 rfl rfl)
theorem dX5_overIf_7 : decode cX5_overIf 7 = .ok (.istore_n 2, 1) := dk_61 (dk_at dksX5_overIf_0 7 rfl rfl)
theorem dX5_overIf_8 : decode cX5_overIf 8 = .ok (.aload_n 0, 1) := dk_42 (dk_at dksX5_overIf_0 8 rfl rfl)
theorem dX5_overIf_9 : decode cX5_overIf 9 = .ok (.getfield 17, 3) := dk_180 0 17 (dk_at dksX5_overIf_0 9 rfl rfl)
theorem dX5_overIf_12 : decode cX5_overIf 12 = .ok (.bipush 34, 2) := dk_16 34 (dk_at dksX5_overIf_0 12 rfl rfl)
theorem dX5_overIf_14 : decode cX5_overIf 14 = .ok (.dup2, 1) := dk_92 (dk_at dksX5_overIf_0 14 rfl rfl)
theorem dX5_overIf_15 : decode cX5_overIf 15 = .ok (.iaload, 1) := dk_46 (dk_at dksX5_overIf_0 15 rfl rfl)
theorem dX5_overIf_16 : decode cX5_overIf 16 = .ok (.iload_n 1, 1) := dk_27 (dk_at dksX5_overIf_0 16 rfl rfl)
theorem dX5_overIf_17 : decode cX5_overIf 17 = .ok (.ixor, 1) := dk_130 (dk_at dksX5_overIf_0 17 rfl rfl)
theorem dX5_overIf_18 : decode cX5_overIf 18 = .ok (.iastore, 1) := dk_79 (dk_at dksX5_overIf_0 18 rfl rfl)
theorem dX5_overIf_19 : decode cX5_overIf 19 = .ok (.aload_n 0, 1) := dk_42 (dk_at dksX5_overIf_0 19 rfl rfl)
theorem dX5_overIf_20 : decode cX5_overIf 20 = .ok (.invokevirtual 296, 3) := dk_182 1 40 (dk_at dksX5_overIf_0 20 rfl rfl)
theorem dX5_overIf_23 : decode cX5_overIf 23 = .ok (.aload_n 0, 1) := dk_42 (dk_at dksX5_overIf_0 23 rfl rfl)
theorem dX5_overIf_24 : decode cX5_overIf 24 = .ok (.getfield 17, 3) := dk_180 0 17 (dk_at dksX5_overIf_1 0 rfl rfl)
theorem dX5_overIf_27 : decode cX5_overIf 27 = .ok (.bipush 34, 2) := dk_16 34 (dk_at dksX5_overIf_1 3 rfl rfl)
theorem dX5_overIf_29 : decode cX5_overIf 29 = .ok (.iload_n 2, 1) := dk_28 (dk_at dksX5_overIf_1 5 rfl rfl)
theorem dX5_overIf_30 : decode cX5_overIf 30 = .ok (.iastore, 1) := dk_79 (dk_at dksX5_overIf_1 6 rfl rfl)
theorem dX5_overIf_31 : decode cX5_overIf 31 = .ok (.aload_n 0, 1) := dk_42 (dk_at dksX5_overIf_1 7 rfl rfl)
theorem dX5_overIf_32 : decode cX5_overIf 32 = .ok (.getfield 54, 3) := dk_180 0 54 (dk_at dksX5_overIf_1 8 rfl rfl)
theorem dX5_overIf_35 : decode cX5_overIf 35 = .ok (.iconst 0, 1) := dk_3 (dk_at dksX5_overIf_1 11 rfl rfl)
theorem dX5_overIf_36 : decode cX5_overIf 36 = .ok (.laload, 1) := dk_47 (dk_at dksX5_overIf_1 12 rfl rfl)
theorem dX5_overIf_37 : decode cX5_overIf 37 = .ok (.lreturn, 1) := dk_173 (dk_at dksX5_overIf_1 13 rfl rfl)
abbrev cX5_best : ByteArray := prog_21_method_61_code
def yX5_best : MethodName := ⟨RX5, "best", "(I)I"⟩
def dkwX5_best_3 : List UInt8 := [167, 0, 9, 21, 5, 61, 22, 6, 66, 132, 5, 1, 167, 255, 204, 28, 172]
abbrev dktX5_best_3 : List UInt8 := dkwX5_best_3 ++ []
def dkwX5_best_2 : List UInt8 := [167, 0, 32, 42, 21, 5, 182, 1, 43, 55, 6, 28, 2, 159, 0, 13, 22, 6, 33, 148, 157, 0, 6]
abbrev dktX5_best_2 : List UInt8 := dkwX5_best_2 ++ dktX5_best_3
def dkwX5_best_1 : List UInt8 := [2, 61, 9, 66, 3, 54, 5, 21, 5, 17, 1, 0, 162, 0, 50, 21, 5, 184, 1, 47, 27, 159, 0, 6]
abbrev dktX5_best_1 : List UInt8 := dkwX5_best_1 ++ dktX5_best_2
def dkwX5_best_0 : List UInt8 := [42, 3, 181, 0, 1, 27, 133, 9, 20, 0, 213, 184, 0, 152, 154, 0, 10, 42, 16, 253, 182, 0, 89, 172]
abbrev dktX5_best_0 : List UInt8 := dkwX5_best_0 ++ dktX5_best_1
theorem dksX5_best_0 : cX5_best.data.toList.drop 0 = dktX5_best_0 := by decide +kernel
theorem dksX5_best_1 : cX5_best.data.toList.drop 24 = dktX5_best_1 := dk_seg dksX5_best_0 24 rfl rfl
theorem dksX5_best_2 : cX5_best.data.toList.drop 48 = dktX5_best_2 := dk_seg dksX5_best_1 24 rfl rfl
theorem dksX5_best_3 : cX5_best.data.toList.drop 71 = dktX5_best_3 := dk_seg dksX5_best_2 23 rfl rfl
theorem dX5_best_0 : decode cX5_best 0 = .ok (.aload_n 0, 1) := dk_42 (dk_at dksX5_best_0 0 rfl rfl)
theorem dX5_best_1 : decode cX5_best 1 = .ok (.iconst 0, 1) := dk_3 (dk_at dksX5_best_0 1 rfl rfl)
theorem dX5_best_2 : decode cX5_best 2 = .ok (.putfield 1, 3) := dk_181 0 1 (dk_at dksX5_best_0 2 rfl rfl)
theorem dX5_best_5 : decode cX5_best 5 = .ok (.iload_n 1, 1) := dk_27 (dk_at dksX5_best_0 5 rfl rfl)
theorem dX5_best_6 : decode cX5_best 6 = .ok (.i2l, 1) := dk_133 (dk_at dksX5_best_0 6 rfl rfl)
theorem dX5_best_7 : decode cX5_best 7 = .ok (.lconst 0, 1) := dk_9 (dk_at dksX5_best_0 7 rfl rfl)
theorem dX5_best_8 : decode cX5_best 8 = .ok (.ldc2_w 213, 3) := dk_20 0 213 (dk_at dksX5_best_0 8 rfl rfl)
theorem dX5_best_11 : decode cX5_best 11 = .ok (.invokestatic 152, 3) := dk_184 0 152 (dk_at dksX5_best_0 11 rfl rfl)
theorem dX5_best_14 : decode cX5_best 14 = .ok (.ifCond .ne 10, 3) := dk_154 0 10 (dk_at dksX5_best_0 14 rfl rfl)
theorem dX5_best_17 : decode cX5_best 17 = .ok (.aload_n 0, 1) := dk_42 (dk_at dksX5_best_0 17 rfl rfl)
theorem dX5_best_18 : decode cX5_best 18 = .ok (.bipush (-3), 2) := dk_16 253 (dk_at dksX5_best_0 18 rfl rfl)
theorem dX5_best_20 : decode cX5_best 20 = .ok (.invokevirtual 89, 3) := dk_182 0 89 (dk_at dksX5_best_0 20 rfl rfl)
theorem dX5_best_23 : decode cX5_best 23 = .ok (.ireturn, 1) := dk_172 (dk_at dksX5_best_0 23 rfl rfl)
theorem dX5_best_24 : decode cX5_best 24 = .ok (.iconst (-1), 1) := dk_2 (dk_at dksX5_best_1 0 rfl rfl)
theorem dX5_best_25 : decode cX5_best 25 = .ok (.istore_n 2, 1) := dk_61 (dk_at dksX5_best_1 1 rfl rfl)
theorem dX5_best_26 : decode cX5_best 26 = .ok (.lconst 0, 1) := dk_9 (dk_at dksX5_best_1 2 rfl rfl)
theorem dX5_best_27 : decode cX5_best 27 = .ok (.lstore_n 3, 1) := dk_66 (dk_at dksX5_best_1 3 rfl rfl)
theorem dX5_best_28 : decode cX5_best 28 = .ok (.iconst 0, 1) := dk_3 (dk_at dksX5_best_1 4 rfl rfl)
theorem dX5_best_29 : decode cX5_best 29 = .ok (.istore 5, 2) := dk_54 5 (dk_at dksX5_best_1 5 rfl rfl)
theorem dX5_best_31 : decode cX5_best 31 = .ok (.iload 5, 2) := dk_21 5 (dk_at dksX5_best_1 7 rfl rfl)
theorem dX5_best_33 : decode cX5_best 33 = .ok (.sipush 256, 3) := dk_17 1 0 (dk_at dksX5_best_1 9 rfl rfl)
theorem dX5_best_36 : decode cX5_best 36 = .ok (.if_icmp .ge 50, 3) := dk_162 0 50 (dk_at dksX5_best_1 12 rfl rfl)
theorem dX5_best_39 : decode cX5_best 39 = .ok (.iload 5, 2) := dk_21 5 (dk_at dksX5_best_1 15 rfl rfl)
theorem dX5_best_41 : decode cX5_best 41 = .ok (.invokestatic 303, 3) := dk_184 1 47 (dk_at dksX5_best_1 17 rfl rfl)
theorem dX5_best_44 : decode cX5_best 44 = .ok (.iload_n 1, 1) := dk_27 (dk_at dksX5_best_1 20 rfl rfl)
theorem dX5_best_45 : decode cX5_best 45 = .ok (.if_icmp .eq 6, 3) := dk_159 0 6 (dk_at dksX5_best_1 21 rfl rfl)
theorem dX5_best_48 : decode cX5_best 48 = .ok (.goto 32, 3) := dk_167 0 32 (dk_at dksX5_best_2 0 rfl rfl)
theorem dX5_best_51 : decode cX5_best 51 = .ok (.aload_n 0, 1) := dk_42 (dk_at dksX5_best_2 3 rfl rfl)
theorem dX5_best_52 : decode cX5_best 52 = .ok (.iload 5, 2) := dk_21 5 (dk_at dksX5_best_2 4 rfl rfl)
theorem dX5_best_54 : decode cX5_best 54 = .ok (.invokevirtual 299, 3) := dk_182 1 43 (dk_at dksX5_best_2 6 rfl rfl)
theorem dX5_best_57 : decode cX5_best 57 = .ok (.lstore 6, 2) := dk_55 6 (dk_at dksX5_best_2 9 rfl rfl)
theorem dX5_best_59 : decode cX5_best 59 = .ok (.iload_n 2, 1) := dk_28 (dk_at dksX5_best_2 11 rfl rfl)
theorem dX5_best_60 : decode cX5_best 60 = .ok (.iconst (-1), 1) := dk_2 (dk_at dksX5_best_2 12 rfl rfl)
theorem dX5_best_61 : decode cX5_best 61 = .ok (.if_icmp .eq 13, 3) := dk_159 0 13 (dk_at dksX5_best_2 13 rfl rfl)
theorem dX5_best_64 : decode cX5_best 64 = .ok (.lload 6, 2) := dk_22 6 (dk_at dksX5_best_2 16 rfl rfl)
theorem dX5_best_66 : decode cX5_best 66 = .ok (.lload_n 3, 1) := dk_33 (dk_at dksX5_best_2 18 rfl rfl)
theorem dX5_best_67 : decode cX5_best 67 = .ok (.lcmp, 1) := dk_148 (dk_at dksX5_best_2 19 rfl rfl)
theorem dX5_best_68 : decode cX5_best 68 = .ok (.ifCond .gt 6, 3) := dk_157 0 6 (dk_at dksX5_best_2 20 rfl rfl)
theorem dX5_best_71 : decode cX5_best 71 = .ok (.goto 9, 3) := dk_167 0 9 (dk_at dksX5_best_3 0 rfl rfl)
theorem dX5_best_74 : decode cX5_best 74 = .ok (.iload 5, 2) := dk_21 5 (dk_at dksX5_best_3 3 rfl rfl)
theorem dX5_best_76 : decode cX5_best 76 = .ok (.istore_n 2, 1) := dk_61 (dk_at dksX5_best_3 5 rfl rfl)
theorem dX5_best_77 : decode cX5_best 77 = .ok (.lload 6, 2) := dk_22 6 (dk_at dksX5_best_3 6 rfl rfl)
theorem dX5_best_79 : decode cX5_best 79 = .ok (.lstore_n 3, 1) := dk_66 (dk_at dksX5_best_3 8 rfl rfl)
theorem dX5_best_80 : decode cX5_best 80 = .ok (.iinc 5 1, 3) := dk_132 5 1 (dk_at dksX5_best_3 9 rfl rfl)
theorem dX5_best_83 : decode cX5_best 83 = .ok (.goto (-52), 3) := dk_167 255 204 (dk_at dksX5_best_3 12 rfl rfl)
theorem dX5_best_86 : decode cX5_best 86 = .ok (.iload_n 2, 1) := dk_28 (dk_at dksX5_best_3 15 rfl rfl)
theorem dX5_best_87 : decode cX5_best 87 = .ok (.ireturn, 1) := dk_172 (dk_at dksX5_best_3 16 rfl rfl)
abbrev cX5_bitsOf : ByteArray := prog_21_method_60_code
def yX5_bitsOf : MethodName := ⟨RX5, "bitsOf", "(I)I"⟩
def dkwX5_bitsOf_1 : List UInt8 := [27, 172]
abbrev dktX5_bitsOf_1 : List UInt8 := dkwX5_bitsOf_1 ++ []
def dkwX5_bitsOf_0 : List UInt8 := [3, 60, 3, 61, 28, 16, 8, 162, 0, 17, 27, 26, 28, 122, 4, 126, 96, 60, 132, 2, 1, 167, 255, 239]
abbrev dktX5_bitsOf_0 : List UInt8 := dkwX5_bitsOf_0 ++ dktX5_bitsOf_1
theorem dksX5_bitsOf_0 : cX5_bitsOf.data.toList.drop 0 = dktX5_bitsOf_0 := by decide +kernel
theorem dksX5_bitsOf_1 : cX5_bitsOf.data.toList.drop 24 = dktX5_bitsOf_1 := dk_seg dksX5_bitsOf_0 24 rfl rfl
theorem dX5_bitsOf_0 : decode cX5_bitsOf 0 = .ok (.iconst 0, 1) := dk_3 (dk_at dksX5_bitsOf_0 0 rfl rfl)
theorem dX5_bitsOf_1 : decode cX5_bitsOf 1 = .ok (.istore_n 1, 1) := dk_60 (dk_at dksX5_bitsOf_0 1 rfl rfl)
theorem dX5_bitsOf_2 : decode cX5_bitsOf 2 = .ok (.iconst 0, 1) := dk_3 (dk_at dksX5_bitsOf_0 2 rfl rfl)
theorem dX5_bitsOf_3 : decode cX5_bitsOf 3 = .ok (.istore_n 2, 1) := dk_61 (dk_at dksX5_bitsOf_0 3 rfl rfl)
theorem dX5_bitsOf_4 : decode cX5_bitsOf 4 = .ok (.iload_n 2, 1) := dk_28 (dk_at dksX5_bitsOf_0 4 rfl rfl)
theorem dX5_bitsOf_5 : decode cX5_bitsOf 5 = .ok (.bipush 8, 2) := dk_16 8 (dk_at dksX5_bitsOf_0 5 rfl rfl)
theorem dX5_bitsOf_7 : decode cX5_bitsOf 7 = .ok (.if_icmp .ge 17, 3) := dk_162 0 17 (dk_at dksX5_bitsOf_0 7 rfl rfl)
theorem dX5_bitsOf_10 : decode cX5_bitsOf 10 = .ok (.iload_n 1, 1) := dk_27 (dk_at dksX5_bitsOf_0 10 rfl rfl)
theorem dX5_bitsOf_11 : decode cX5_bitsOf 11 = .ok (.iload_n 0, 1) := dk_26 (dk_at dksX5_bitsOf_0 11 rfl rfl)
theorem dX5_bitsOf_12 : decode cX5_bitsOf 12 = .ok (.iload_n 2, 1) := dk_28 (dk_at dksX5_bitsOf_0 12 rfl rfl)
theorem dX5_bitsOf_13 : decode cX5_bitsOf 13 = .ok (.ishr, 1) := dk_122 (dk_at dksX5_bitsOf_0 13 rfl rfl)
theorem dX5_bitsOf_14 : decode cX5_bitsOf 14 = .ok (.iconst 1, 1) := dk_4 (dk_at dksX5_bitsOf_0 14 rfl rfl)
theorem dX5_bitsOf_15 : decode cX5_bitsOf 15 = .ok (.iand, 1) := dk_126 (dk_at dksX5_bitsOf_0 15 rfl rfl)
theorem dX5_bitsOf_16 : decode cX5_bitsOf 16 = .ok (.iadd, 1) := dk_96 (dk_at dksX5_bitsOf_0 16 rfl rfl)
theorem dX5_bitsOf_17 : decode cX5_bitsOf 17 = .ok (.istore_n 1, 1) := dk_60 (dk_at dksX5_bitsOf_0 17 rfl rfl)
theorem dX5_bitsOf_18 : decode cX5_bitsOf 18 = .ok (.iinc 2 1, 3) := dk_132 2 1 (dk_at dksX5_bitsOf_0 18 rfl rfl)
theorem dX5_bitsOf_21 : decode cX5_bitsOf 21 = .ok (.goto (-17), 3) := dk_167 255 239 (dk_at dksX5_bitsOf_0 21 rfl rfl)
theorem dX5_bitsOf_24 : decode cX5_bitsOf 24 = .ok (.iload_n 1, 1) := dk_27 (dk_at dksX5_bitsOf_1 0 rfl rfl)
theorem dX5_bitsOf_25 : decode cX5_bitsOf 25 = .ok (.ireturn, 1) := dk_172 (dk_at dksX5_bitsOf_1 1 rfl rfl)
abbrev cX5_back : ByteArray := prog_21_method_62_code
def yX5_back : MethodName := ⟨RX5, "back", "(I)I"⟩
def dkwX5_back_6 : List UInt8 := [62, 132, 4, 1, 167, 255, 148, 42, 180, 0, 17, 16, 35, 28, 79, 29, 172]
abbrev dktX5_back_6 : List UInt8 := dkwX5_back_6 ++ []
def dkwX5_back_5 : List UInt8 := [109, 105, 148, 157, 0, 7, 4, 167, 0, 4, 3, 54, 7, 21, 7, 153, 0, 8, 21, 4, 167, 0, 4, 2]
abbrev dktX5_back_5 : List UInt8 := dkwX5_back_5 ++ dktX5_back_6
def dkwX5_back_4 : List UInt8 := [157, 0, 7, 4, 167, 0, 31, 3, 167, 0, 27, 42, 180, 0, 54, 4, 47, 27, 133, 22, 5, 20, 1, 50]
abbrev dktX5_back_4 : List UInt8 := dkwX5_back_4 ++ dktX5_back_5
def dkwX5_back_3 : List UInt8 := [20, 1, 50, 148, 156, 0, 30, 42, 180, 0, 54, 4, 47, 20, 1, 50, 105, 27, 133, 22, 5, 105, 148]
abbrev dktX5_back_3 : List UInt8 := dkwX5_back_3 ++ dktX5_back_4
def dkwX5_back_2 : List UInt8 := [160, 0, 102, 42, 180, 0, 17, 16, 35, 21, 4, 79, 42, 182, 1, 40, 42, 182, 1, 36, 55, 5, 22, 5]
abbrev dktX5_back_2 : List UInt8 := dkwX5_back_2 ++ dktX5_back_3
def dkwX5_back_1 : List UInt8 := [42, 180, 0, 17, 16, 35, 46, 61, 2, 62, 3, 54, 4, 21, 4, 16, 30, 163, 0, 107, 29, 2]
abbrev dktX5_back_1 : List UInt8 := dkwX5_back_1 ++ dktX5_back_2
def dkwX5_back_0 : List UInt8 := [42, 3, 181, 0, 1, 27, 133, 9, 20, 1, 50, 184, 0, 152, 154, 0, 10, 42, 16, 253, 182, 0, 89, 172]
abbrev dktX5_back_0 : List UInt8 := dkwX5_back_0 ++ dktX5_back_1
theorem dksX5_back_0 : cX5_back.data.toList.drop 0 = dktX5_back_0 := by decide +kernel
theorem dksX5_back_1 : cX5_back.data.toList.drop 24 = dktX5_back_1 := dk_seg dksX5_back_0 24 rfl rfl
theorem dksX5_back_2 : cX5_back.data.toList.drop 46 = dktX5_back_2 := dk_seg dksX5_back_1 22 rfl rfl
theorem dksX5_back_3 : cX5_back.data.toList.drop 70 = dktX5_back_3 := dk_seg dksX5_back_2 24 rfl rfl
theorem dksX5_back_4 : cX5_back.data.toList.drop 93 = dktX5_back_4 := dk_seg dksX5_back_3 23 rfl rfl
theorem dksX5_back_5 : cX5_back.data.toList.drop 117 = dktX5_back_5 := dk_seg dksX5_back_4 24 rfl rfl
theorem dksX5_back_6 : cX5_back.data.toList.drop 141 = dktX5_back_6 := dk_seg dksX5_back_5 24 rfl rfl
theorem dX5_back_0 : decode cX5_back 0 = .ok (.aload_n 0, 1) := dk_42 (dk_at dksX5_back_0 0 rfl rfl)
theorem dX5_back_1 : decode cX5_back 1 = .ok (.iconst 0, 1) := dk_3 (dk_at dksX5_back_0 1 rfl rfl)
theorem dX5_back_2 : decode cX5_back 2 = .ok (.putfield 1, 3) := dk_181 0 1 (dk_at dksX5_back_0 2 rfl rfl)
theorem dX5_back_5 : decode cX5_back 5 = .ok (.iload_n 1, 1) := dk_27 (dk_at dksX5_back_0 5 rfl rfl)
theorem dX5_back_6 : decode cX5_back 6 = .ok (.i2l, 1) := dk_133 (dk_at dksX5_back_0 6 rfl rfl)
theorem dX5_back_7 : decode cX5_back 7 = .ok (.lconst 0, 1) := dk_9 (dk_at dksX5_back_0 7 rfl rfl)
theorem dX5_back_8 : decode cX5_back 8 = .ok (.ldc2_w 306, 3) := dk_20 1 50 (dk_at dksX5_back_0 8 rfl rfl)
theorem dX5_back_11 : decode cX5_back 11 = .ok (.invokestatic 152, 3) := dk_184 0 152 (dk_at dksX5_back_0 11 rfl rfl)
theorem dX5_back_14 : decode cX5_back 14 = .ok (.ifCond .ne 10, 3) := dk_154 0 10 (dk_at dksX5_back_0 14 rfl rfl)
theorem dX5_back_17 : decode cX5_back 17 = .ok (.aload_n 0, 1) := dk_42 (dk_at dksX5_back_0 17 rfl rfl)
theorem dX5_back_18 : decode cX5_back 18 = .ok (.bipush (-3), 2) := dk_16 253 (dk_at dksX5_back_0 18 rfl rfl)
theorem dX5_back_20 : decode cX5_back 20 = .ok (.invokevirtual 89, 3) := dk_182 0 89 (dk_at dksX5_back_0 20 rfl rfl)
theorem dX5_back_23 : decode cX5_back 23 = .ok (.ireturn, 1) := dk_172 (dk_at dksX5_back_0 23 rfl rfl)
theorem dX5_back_24 : decode cX5_back 24 = .ok (.aload_n 0, 1) := dk_42 (dk_at dksX5_back_1 0 rfl rfl)
theorem dX5_back_25 : decode cX5_back 25 = .ok (.getfield 17, 3) := dk_180 0 17 (dk_at dksX5_back_1 1 rfl rfl)
theorem dX5_back_28 : decode cX5_back 28 = .ok (.bipush 35, 2) := dk_16 35 (dk_at dksX5_back_1 4 rfl rfl)
theorem dX5_back_30 : decode cX5_back 30 = .ok (.iaload, 1) := dk_46 (dk_at dksX5_back_1 6 rfl rfl)
theorem dX5_back_31 : decode cX5_back 31 = .ok (.istore_n 2, 1) := dk_61 (dk_at dksX5_back_1 7 rfl rfl)
theorem dX5_back_32 : decode cX5_back 32 = .ok (.iconst (-1), 1) := dk_2 (dk_at dksX5_back_1 8 rfl rfl)
theorem dX5_back_33 : decode cX5_back 33 = .ok (.istore_n 3, 1) := dk_62 (dk_at dksX5_back_1 9 rfl rfl)
theorem dX5_back_34 : decode cX5_back 34 = .ok (.iconst 0, 1) := dk_3 (dk_at dksX5_back_1 10 rfl rfl)
theorem dX5_back_35 : decode cX5_back 35 = .ok (.istore 4, 2) := dk_54 4 (dk_at dksX5_back_1 11 rfl rfl)
theorem dX5_back_37 : decode cX5_back 37 = .ok (.iload 4, 2) := dk_21 4 (dk_at dksX5_back_1 13 rfl rfl)
theorem dX5_back_39 : decode cX5_back 39 = .ok (.bipush 30, 2) := dk_16 30 (dk_at dksX5_back_1 15 rfl rfl)
theorem dX5_back_41 : decode cX5_back 41 = .ok (.if_icmp .gt 107, 3) := dk_163 0 107 (dk_at dksX5_back_1 17 rfl rfl)
theorem dX5_back_44 : decode cX5_back 44 = .ok (.iload_n 3, 1) := dk_29 (dk_at dksX5_back_1 20 rfl rfl)
theorem dX5_back_45 : decode cX5_back 45 = .ok (.iconst (-1), 1) := dk_2 (dk_at dksX5_back_1 21 rfl rfl)
theorem dX5_back_46 : decode cX5_back 46 = .ok (.if_icmp .ne 102, 3) := dk_160 0 102 (dk_at dksX5_back_2 0 rfl rfl)
theorem dX5_back_49 : decode cX5_back 49 = .ok (.aload_n 0, 1) := dk_42 (dk_at dksX5_back_2 3 rfl rfl)
theorem dX5_back_50 : decode cX5_back 50 = .ok (.getfield 17, 3) := dk_180 0 17 (dk_at dksX5_back_2 4 rfl rfl)
theorem dX5_back_53 : decode cX5_back 53 = .ok (.bipush 35, 2) := dk_16 35 (dk_at dksX5_back_2 7 rfl rfl)
theorem dX5_back_55 : decode cX5_back 55 = .ok (.iload 4, 2) := dk_21 4 (dk_at dksX5_back_2 9 rfl rfl)
theorem dX5_back_57 : decode cX5_back 57 = .ok (.iastore, 1) := dk_79 (dk_at dksX5_back_2 11 rfl rfl)
theorem dX5_back_58 : decode cX5_back 58 = .ok (.aload_n 0, 1) := dk_42 (dk_at dksX5_back_2 12 rfl rfl)
theorem dX5_back_59 : decode cX5_back 59 = .ok (.invokevirtual 296, 3) := dk_182 1 40 (dk_at dksX5_back_2 13 rfl rfl)
theorem dX5_back_62 : decode cX5_back 62 = .ok (.aload_n 0, 1) := dk_42 (dk_at dksX5_back_2 16 rfl rfl)
theorem dX5_back_63 : decode cX5_back 63 = .ok (.invokevirtual 292, 3) := dk_182 1 36 (dk_at dksX5_back_2 17 rfl rfl)
theorem dX5_back_66 : decode cX5_back 66 = .ok (.lstore 5, 2) := dk_55 5 (dk_at dksX5_back_2 20 rfl rfl)
theorem dX5_back_68 : decode cX5_back 68 = .ok (.lload 5, 2) := dk_22 5 (dk_at dksX5_back_2 22 rfl rfl)
theorem dX5_back_70 : decode cX5_back 70 = .ok (.ldc2_w 306, 3) := dk_20 1 50 (dk_at dksX5_back_3 0 rfl rfl)
theorem dX5_back_73 : decode cX5_back 73 = .ok (.lcmp, 1) := dk_148 (dk_at dksX5_back_3 3 rfl rfl)
theorem dX5_back_74 : decode cX5_back 74 = .ok (.ifCond .ge 30, 3) := dk_156 0 30 (dk_at dksX5_back_3 4 rfl rfl)
theorem dX5_back_77 : decode cX5_back 77 = .ok (.aload_n 0, 1) := dk_42 (dk_at dksX5_back_3 7 rfl rfl)
theorem dX5_back_78 : decode cX5_back 78 = .ok (.getfield 54, 3) := dk_180 0 54 (dk_at dksX5_back_3 8 rfl rfl)
theorem dX5_back_81 : decode cX5_back 81 = .ok (.iconst 1, 1) := dk_4 (dk_at dksX5_back_3 11 rfl rfl)
theorem dX5_back_82 : decode cX5_back 82 = .ok (.laload, 1) := dk_47 (dk_at dksX5_back_3 12 rfl rfl)
theorem dX5_back_83 : decode cX5_back 83 = .ok (.ldc2_w 306, 3) := dk_20 1 50 (dk_at dksX5_back_3 13 rfl rfl)
theorem dX5_back_86 : decode cX5_back 86 = .ok (.lmul, 1) := dk_105 (dk_at dksX5_back_3 16 rfl rfl)
theorem dX5_back_87 : decode cX5_back 87 = .ok (.iload_n 1, 1) := dk_27 (dk_at dksX5_back_3 17 rfl rfl)
theorem dX5_back_88 : decode cX5_back 88 = .ok (.i2l, 1) := dk_133 (dk_at dksX5_back_3 18 rfl rfl)
theorem dX5_back_89 : decode cX5_back 89 = .ok (.lload 5, 2) := dk_22 5 (dk_at dksX5_back_3 19 rfl rfl)
theorem dX5_back_91 : decode cX5_back 91 = .ok (.lmul, 1) := dk_105 (dk_at dksX5_back_3 21 rfl rfl)
theorem dX5_back_92 : decode cX5_back 92 = .ok (.lcmp, 1) := dk_148 (dk_at dksX5_back_3 22 rfl rfl)
theorem dX5_back_93 : decode cX5_back 93 = .ok (.ifCond .gt 7, 3) := dk_157 0 7 (dk_at dksX5_back_4 0 rfl rfl)
theorem dX5_back_96 : decode cX5_back 96 = .ok (.iconst 1, 1) := dk_4 (dk_at dksX5_back_4 3 rfl rfl)
theorem dX5_back_97 : decode cX5_back 97 = .ok (.goto 31, 3) := dk_167 0 31 (dk_at dksX5_back_4 4 rfl rfl)
theorem dX5_back_100 : decode cX5_back 100 = .ok (.iconst 0, 1) := dk_3 (dk_at dksX5_back_4 7 rfl rfl)
theorem dX5_back_101 : decode cX5_back 101 = .ok (.goto 27, 3) := dk_167 0 27 (dk_at dksX5_back_4 8 rfl rfl)
theorem dX5_back_104 : decode cX5_back 104 = .ok (.aload_n 0, 1) := dk_42 (dk_at dksX5_back_4 11 rfl rfl)
theorem dX5_back_105 : decode cX5_back 105 = .ok (.getfield 54, 3) := dk_180 0 54 (dk_at dksX5_back_4 12 rfl rfl)
theorem dX5_back_108 : decode cX5_back 108 = .ok (.iconst 1, 1) := dk_4 (dk_at dksX5_back_4 15 rfl rfl)
theorem dX5_back_109 : decode cX5_back 109 = .ok (.laload, 1) := dk_47 (dk_at dksX5_back_4 16 rfl rfl)
theorem dX5_back_110 : decode cX5_back 110 = .ok (.iload_n 1, 1) := dk_27 (dk_at dksX5_back_4 17 rfl rfl)
theorem dX5_back_111 : decode cX5_back 111 = .ok (.i2l, 1) := dk_133 (dk_at dksX5_back_4 18 rfl rfl)
theorem dX5_back_112 : decode cX5_back 112 = .ok (.lload 5, 2) := dk_22 5 (dk_at dksX5_back_4 19 rfl rfl)
theorem dX5_back_114 : decode cX5_back 114 = .ok (.ldc2_w 306, 3) := dk_20 1 50 (dk_at dksX5_back_4 21 rfl rfl)
theorem dX5_back_117 : decode cX5_back 117 = .ok (.ldiv, 1) := dk_109 (dk_at dksX5_back_5 0 rfl rfl)
theorem dX5_back_118 : decode cX5_back 118 = .ok (.lmul, 1) := dk_105 (dk_at dksX5_back_5 1 rfl rfl)
theorem dX5_back_119 : decode cX5_back 119 = .ok (.lcmp, 1) := dk_148 (dk_at dksX5_back_5 2 rfl rfl)
theorem dX5_back_120 : decode cX5_back 120 = .ok (.ifCond .gt 7, 3) := dk_157 0 7 (dk_at dksX5_back_5 3 rfl rfl)
theorem dX5_back_123 : decode cX5_back 123 = .ok (.iconst 1, 1) := dk_4 (dk_at dksX5_back_5 6 rfl rfl)
theorem dX5_back_124 : decode cX5_back 124 = .ok (.goto 4, 3) := dk_167 0 4 (dk_at dksX5_back_5 7 rfl rfl)
theorem dX5_back_127 : decode cX5_back 127 = .ok (.iconst 0, 1) := dk_3 (dk_at dksX5_back_5 10 rfl rfl)
theorem dX5_back_128 : decode cX5_back 128 = .ok (.istore 7, 2) := dk_54 7 (dk_at dksX5_back_5 11 rfl rfl)
theorem dX5_back_130 : decode cX5_back 130 = .ok (.iload 7, 2) := dk_21 7 (dk_at dksX5_back_5 13 rfl rfl)
theorem dX5_back_132 : decode cX5_back 132 = .ok (.ifCond .eq 8, 3) := dk_153 0 8 (dk_at dksX5_back_5 15 rfl rfl)
theorem dX5_back_135 : decode cX5_back 135 = .ok (.iload 4, 2) := dk_21 4 (dk_at dksX5_back_5 18 rfl rfl)
theorem dX5_back_137 : decode cX5_back 137 = .ok (.goto 4, 3) := dk_167 0 4 (dk_at dksX5_back_5 20 rfl rfl)
theorem dX5_back_140 : decode cX5_back 140 = .ok (.iconst (-1), 1) := dk_2 (dk_at dksX5_back_5 23 rfl rfl)
theorem dX5_back_141 : decode cX5_back 141 = .ok (.istore_n 3, 1) := dk_62 (dk_at dksX5_back_6 0 rfl rfl)
theorem dX5_back_142 : decode cX5_back 142 = .ok (.iinc 4 1, 3) := dk_132 4 1 (dk_at dksX5_back_6 1 rfl rfl)
theorem dX5_back_145 : decode cX5_back 145 = .ok (.goto (-108), 3) := dk_167 255 148 (dk_at dksX5_back_6 4 rfl rfl)
theorem dX5_back_148 : decode cX5_back 148 = .ok (.aload_n 0, 1) := dk_42 (dk_at dksX5_back_6 7 rfl rfl)
theorem dX5_back_149 : decode cX5_back 149 = .ok (.getfield 17, 3) := dk_180 0 17 (dk_at dksX5_back_6 8 rfl rfl)
theorem dX5_back_152 : decode cX5_back 152 = .ok (.bipush 35, 2) := dk_16 35 (dk_at dksX5_back_6 11 rfl rfl)
theorem dX5_back_154 : decode cX5_back 154 = .ok (.iload_n 2, 1) := dk_28 (dk_at dksX5_back_6 13 rfl rfl)
theorem dX5_back_155 : decode cX5_back 155 = .ok (.iastore, 1) := dk_79 (dk_at dksX5_back_6 14 rfl rfl)
theorem dX5_back_156 : decode cX5_back 156 = .ok (.iload_n 3, 1) := dk_29 (dk_at dksX5_back_6 15 rfl rfl)
theorem dX5_back_157 : decode cX5_back 157 = .ok (.ireturn, 1) := dk_172 (dk_at dksX5_back_6 16 rfl rfl)
abbrev cX5_wise : ByteArray := prog_21_method_63_code
def yX5_wise : MethodName := ⟨RX5, "wise", "(I)I"⟩
def dkwX5_wise_5 : List UInt8 := [180, 0, 17, 28, 29, 79, 21, 4, 172]
abbrev dktX5_wise_5 : List UInt8 := dkwX5_wise_5 ++ []
def dkwX5_wise_4 : List UInt8 := [167, 0, 15, 42, 180, 0, 54, 3, 47, 55, 5, 21, 7, 54, 4, 132, 7, 1, 167, 255, 198, 42]
abbrev dktX5_wise_4 : List UInt8 := dkwX5_wise_4 ++ dktX5_wise_5
def dkwX5_wise_3 : List UInt8 := [180, 0, 17, 28, 21, 7, 79, 42, 182, 1, 40, 42, 180, 0, 54, 3, 47, 22, 5, 148, 157, 0, 6]
abbrev dktX5_wise_3 : List UInt8 := dkwX5_wise_3 ++ dktX5_wise_4
def dkwX5_wise_2 : List UInt8 := [55, 5, 3, 54, 7, 21, 7, 27, 154, 0, 8, 16, 60, 167, 0, 5, 16, 20, 163, 0, 48, 42]
abbrev dktX5_wise_2 : List UInt8 := dkwX5_wise_2 ++ dktX5_wise_3
def dkwX5_wise_1 : List UInt8 := [154, 0, 8, 16, 37, 167, 0, 5, 16, 36, 61, 42, 180, 0, 17, 28, 46, 62, 3, 54, 4, 20, 1, 52]
abbrev dktX5_wise_1 : List UInt8 := dkwX5_wise_1 ++ dktX5_wise_2
def dkwX5_wise_0 : List UInt8 := [42, 3, 181, 0, 1, 27, 133, 9, 10, 184, 0, 152, 154, 0, 10, 42, 16, 254, 182, 0, 89, 172, 27]
abbrev dktX5_wise_0 : List UInt8 := dkwX5_wise_0 ++ dktX5_wise_1
theorem dksX5_wise_0 : cX5_wise.data.toList.drop 0 = dktX5_wise_0 := by decide +kernel
theorem dksX5_wise_1 : cX5_wise.data.toList.drop 23 = dktX5_wise_1 := dk_seg dksX5_wise_0 23 rfl rfl
theorem dksX5_wise_2 : cX5_wise.data.toList.drop 47 = dktX5_wise_2 := dk_seg dksX5_wise_1 24 rfl rfl
theorem dksX5_wise_3 : cX5_wise.data.toList.drop 69 = dktX5_wise_3 := dk_seg dksX5_wise_2 22 rfl rfl
theorem dksX5_wise_4 : cX5_wise.data.toList.drop 92 = dktX5_wise_4 := dk_seg dksX5_wise_3 23 rfl rfl
theorem dksX5_wise_5 : cX5_wise.data.toList.drop 114 = dktX5_wise_5 := dk_seg dksX5_wise_4 22 rfl rfl
theorem dX5_wise_0 : decode cX5_wise 0 = .ok (.aload_n 0, 1) := dk_42 (dk_at dksX5_wise_0 0 rfl rfl)
theorem dX5_wise_1 : decode cX5_wise 1 = .ok (.iconst 0, 1) := dk_3 (dk_at dksX5_wise_0 1 rfl rfl)
theorem dX5_wise_2 : decode cX5_wise 2 = .ok (.putfield 1, 3) := dk_181 0 1 (dk_at dksX5_wise_0 2 rfl rfl)
theorem dX5_wise_5 : decode cX5_wise 5 = .ok (.iload_n 1, 1) := dk_27 (dk_at dksX5_wise_0 5 rfl rfl)
theorem dX5_wise_6 : decode cX5_wise 6 = .ok (.i2l, 1) := dk_133 (dk_at dksX5_wise_0 6 rfl rfl)
theorem dX5_wise_7 : decode cX5_wise 7 = .ok (.lconst 0, 1) := dk_9 (dk_at dksX5_wise_0 7 rfl rfl)
theorem dX5_wise_8 : decode cX5_wise 8 = .ok (.lconst 1, 1) := dk_10 (dk_at dksX5_wise_0 8 rfl rfl)
theorem dX5_wise_9 : decode cX5_wise 9 = .ok (.invokestatic 152, 3) := dk_184 0 152 (dk_at dksX5_wise_0 9 rfl rfl)
theorem dX5_wise_12 : decode cX5_wise 12 = .ok (.ifCond .ne 10, 3) := dk_154 0 10 (dk_at dksX5_wise_0 12 rfl rfl)
theorem dX5_wise_15 : decode cX5_wise 15 = .ok (.aload_n 0, 1) := dk_42 (dk_at dksX5_wise_0 15 rfl rfl)
theorem dX5_wise_16 : decode cX5_wise 16 = .ok (.bipush (-2), 2) := dk_16 254 (dk_at dksX5_wise_0 16 rfl rfl)
theorem dX5_wise_18 : decode cX5_wise 18 = .ok (.invokevirtual 89, 3) := dk_182 0 89 (dk_at dksX5_wise_0 18 rfl rfl)
theorem dX5_wise_21 : decode cX5_wise 21 = .ok (.ireturn, 1) := dk_172 (dk_at dksX5_wise_0 21 rfl rfl)
theorem dX5_wise_22 : decode cX5_wise 22 = .ok (.iload_n 1, 1) := dk_27 (dk_at dksX5_wise_0 22 rfl rfl)
theorem dX5_wise_23 : decode cX5_wise 23 = .ok (.ifCond .ne 8, 3) := dk_154 0 8 (dk_at dksX5_wise_1 0 rfl rfl)
theorem dX5_wise_26 : decode cX5_wise 26 = .ok (.bipush 37, 2) := dk_16 37 (dk_at dksX5_wise_1 3 rfl rfl)
theorem dX5_wise_28 : decode cX5_wise 28 = .ok (.goto 5, 3) := dk_167 0 5 (dk_at dksX5_wise_1 5 rfl rfl)
theorem dX5_wise_31 : decode cX5_wise 31 = .ok (.bipush 36, 2) := dk_16 36 (dk_at dksX5_wise_1 8 rfl rfl)
theorem dX5_wise_33 : decode cX5_wise 33 = .ok (.istore_n 2, 1) := dk_61 (dk_at dksX5_wise_1 10 rfl rfl)
theorem dX5_wise_34 : decode cX5_wise 34 = .ok (.aload_n 0, 1) := dk_42 (dk_at dksX5_wise_1 11 rfl rfl)
theorem dX5_wise_35 : decode cX5_wise 35 = .ok (.getfield 17, 3) := dk_180 0 17 (dk_at dksX5_wise_1 12 rfl rfl)
theorem dX5_wise_38 : decode cX5_wise 38 = .ok (.iload_n 2, 1) := dk_28 (dk_at dksX5_wise_1 15 rfl rfl)
theorem dX5_wise_39 : decode cX5_wise 39 = .ok (.iaload, 1) := dk_46 (dk_at dksX5_wise_1 16 rfl rfl)
theorem dX5_wise_40 : decode cX5_wise 40 = .ok (.istore_n 3, 1) := dk_62 (dk_at dksX5_wise_1 17 rfl rfl)
theorem dX5_wise_41 : decode cX5_wise 41 = .ok (.iconst 0, 1) := dk_3 (dk_at dksX5_wise_1 18 rfl rfl)
theorem dX5_wise_42 : decode cX5_wise 42 = .ok (.istore 4, 2) := dk_54 4 (dk_at dksX5_wise_1 19 rfl rfl)
theorem dX5_wise_44 : decode cX5_wise 44 = .ok (.ldc2_w 308, 3) := dk_20 1 52 (dk_at dksX5_wise_1 21 rfl rfl)
theorem dX5_wise_47 : decode cX5_wise 47 = .ok (.lstore 5, 2) := dk_55 5 (dk_at dksX5_wise_2 0 rfl rfl)
theorem dX5_wise_49 : decode cX5_wise 49 = .ok (.iconst 0, 1) := dk_3 (dk_at dksX5_wise_2 2 rfl rfl)
theorem dX5_wise_50 : decode cX5_wise 50 = .ok (.istore 7, 2) := dk_54 7 (dk_at dksX5_wise_2 3 rfl rfl)
theorem dX5_wise_52 : decode cX5_wise 52 = .ok (.iload 7, 2) := dk_21 7 (dk_at dksX5_wise_2 5 rfl rfl)
theorem dX5_wise_54 : decode cX5_wise 54 = .ok (.iload_n 1, 1) := dk_27 (dk_at dksX5_wise_2 7 rfl rfl)
theorem dX5_wise_55 : decode cX5_wise 55 = .ok (.ifCond .ne 8, 3) := dk_154 0 8 (dk_at dksX5_wise_2 8 rfl rfl)
theorem dX5_wise_58 : decode cX5_wise 58 = .ok (.bipush 60, 2) := dk_16 60 (dk_at dksX5_wise_2 11 rfl rfl)
theorem dX5_wise_60 : decode cX5_wise 60 = .ok (.goto 5, 3) := dk_167 0 5 (dk_at dksX5_wise_2 13 rfl rfl)
theorem dX5_wise_63 : decode cX5_wise 63 = .ok (.bipush 20, 2) := dk_16 20 (dk_at dksX5_wise_2 16 rfl rfl)
theorem dX5_wise_65 : decode cX5_wise 65 = .ok (.if_icmp .gt 48, 3) := dk_163 0 48 (dk_at dksX5_wise_2 18 rfl rfl)
theorem dX5_wise_68 : decode cX5_wise 68 = .ok (.aload_n 0, 1) := dk_42 (dk_at dksX5_wise_2 21 rfl rfl)
theorem dX5_wise_69 : decode cX5_wise 69 = .ok (.getfield 17, 3) := dk_180 0 17 (dk_at dksX5_wise_3 0 rfl rfl)
theorem dX5_wise_72 : decode cX5_wise 72 = .ok (.iload_n 2, 1) := dk_28 (dk_at dksX5_wise_3 3 rfl rfl)
theorem dX5_wise_73 : decode cX5_wise 73 = .ok (.iload 7, 2) := dk_21 7 (dk_at dksX5_wise_3 4 rfl rfl)
theorem dX5_wise_75 : decode cX5_wise 75 = .ok (.iastore, 1) := dk_79 (dk_at dksX5_wise_3 6 rfl rfl)
theorem dX5_wise_76 : decode cX5_wise 76 = .ok (.aload_n 0, 1) := dk_42 (dk_at dksX5_wise_3 7 rfl rfl)
theorem dX5_wise_77 : decode cX5_wise 77 = .ok (.invokevirtual 296, 3) := dk_182 1 40 (dk_at dksX5_wise_3 8 rfl rfl)
theorem dX5_wise_80 : decode cX5_wise 80 = .ok (.aload_n 0, 1) := dk_42 (dk_at dksX5_wise_3 11 rfl rfl)
theorem dX5_wise_81 : decode cX5_wise 81 = .ok (.getfield 54, 3) := dk_180 0 54 (dk_at dksX5_wise_3 12 rfl rfl)
theorem dX5_wise_84 : decode cX5_wise 84 = .ok (.iconst 0, 1) := dk_3 (dk_at dksX5_wise_3 15 rfl rfl)
theorem dX5_wise_85 : decode cX5_wise 85 = .ok (.laload, 1) := dk_47 (dk_at dksX5_wise_3 16 rfl rfl)
theorem dX5_wise_86 : decode cX5_wise 86 = .ok (.lload 5, 2) := dk_22 5 (dk_at dksX5_wise_3 17 rfl rfl)
theorem dX5_wise_88 : decode cX5_wise 88 = .ok (.lcmp, 1) := dk_148 (dk_at dksX5_wise_3 19 rfl rfl)
theorem dX5_wise_89 : decode cX5_wise 89 = .ok (.ifCond .gt 6, 3) := dk_157 0 6 (dk_at dksX5_wise_3 20 rfl rfl)
theorem dX5_wise_92 : decode cX5_wise 92 = .ok (.goto 15, 3) := dk_167 0 15 (dk_at dksX5_wise_4 0 rfl rfl)
theorem dX5_wise_95 : decode cX5_wise 95 = .ok (.aload_n 0, 1) := dk_42 (dk_at dksX5_wise_4 3 rfl rfl)
theorem dX5_wise_96 : decode cX5_wise 96 = .ok (.getfield 54, 3) := dk_180 0 54 (dk_at dksX5_wise_4 4 rfl rfl)
theorem dX5_wise_99 : decode cX5_wise 99 = .ok (.iconst 0, 1) := dk_3 (dk_at dksX5_wise_4 7 rfl rfl)
theorem dX5_wise_100 : decode cX5_wise 100 = .ok (.laload, 1) := dk_47 (dk_at dksX5_wise_4 8 rfl rfl)
theorem dX5_wise_101 : decode cX5_wise 101 = .ok (.lstore 5, 2) := dk_55 5 (dk_at dksX5_wise_4 9 rfl rfl)
theorem dX5_wise_103 : decode cX5_wise 103 = .ok (.iload 7, 2) := dk_21 7 (dk_at dksX5_wise_4 11 rfl rfl)
theorem dX5_wise_105 : decode cX5_wise 105 = .ok (.istore 4, 2) := dk_54 4 (dk_at dksX5_wise_4 13 rfl rfl)
theorem dX5_wise_107 : decode cX5_wise 107 = .ok (.iinc 7 1, 3) := dk_132 7 1 (dk_at dksX5_wise_4 15 rfl rfl)
theorem dX5_wise_110 : decode cX5_wise 110 = .ok (.goto (-58), 3) := dk_167 255 198 (dk_at dksX5_wise_4 18 rfl rfl)
theorem dX5_wise_113 : decode cX5_wise 113 = .ok (.aload_n 0, 1) := dk_42 (dk_at dksX5_wise_4 21 rfl rfl)
theorem dX5_wise_114 : decode cX5_wise 114 = .ok (.getfield 17, 3) := dk_180 0 17 (dk_at dksX5_wise_5 0 rfl rfl)
theorem dX5_wise_117 : decode cX5_wise 117 = .ok (.iload_n 2, 1) := dk_28 (dk_at dksX5_wise_5 3 rfl rfl)
theorem dX5_wise_118 : decode cX5_wise 118 = .ok (.iload_n 3, 1) := dk_29 (dk_at dksX5_wise_5 4 rfl rfl)
theorem dX5_wise_119 : decode cX5_wise 119 = .ok (.iastore, 1) := dk_79 (dk_at dksX5_wise_5 5 rfl rfl)
theorem dX5_wise_120 : decode cX5_wise 120 = .ok (.iload 4, 2) := dk_21 4 (dk_at dksX5_wise_5 6 rfl rfl)
theorem dX5_wise_122 : decode cX5_wise 122 = .ok (.ireturn, 1) := dk_172 (dk_at dksX5_wise_5 8 rfl rfl)
abbrev cX5_blame : ByteArray := prog_21_method_64_code
def yX5_blame : MethodName := ⟨RX5, "blame", "(II)J"⟩
def dkwX5_blame_2 : List UInt8 := [42, 180, 0, 61, 27, 47, 173]
abbrev dktX5_blame_2 : List UInt8 := dkwX5_blame_2 ++ []
def dkwX5_blame_1 : List UInt8 := [16, 254, 182, 0, 89, 133, 173, 42, 182, 1, 40, 28, 154, 0, 12, 42, 180, 0, 58, 27, 47, 167, 0, 9]
abbrev dktX5_blame_1 : List UInt8 := dkwX5_blame_1 ++ dktX5_blame_2
def dkwX5_blame_0 : List UInt8 := [42, 3, 181, 0, 1, 42, 27, 182, 0, 210, 153, 0, 13, 28, 133, 9, 10, 184, 0, 152, 154, 0, 11, 42]
abbrev dktX5_blame_0 : List UInt8 := dkwX5_blame_0 ++ dktX5_blame_1
theorem dksX5_blame_0 : cX5_blame.data.toList.drop 0 = dktX5_blame_0 := by decide +kernel
theorem dksX5_blame_1 : cX5_blame.data.toList.drop 24 = dktX5_blame_1 := dk_seg dksX5_blame_0 24 rfl rfl
theorem dksX5_blame_2 : cX5_blame.data.toList.drop 48 = dktX5_blame_2 := dk_seg dksX5_blame_1 24 rfl rfl
theorem dX5_blame_0 : decode cX5_blame 0 = .ok (.aload_n 0, 1) := dk_42 (dk_at dksX5_blame_0 0 rfl rfl)
theorem dX5_blame_1 : decode cX5_blame 1 = .ok (.iconst 0, 1) := dk_3 (dk_at dksX5_blame_0 1 rfl rfl)
theorem dX5_blame_2 : decode cX5_blame 2 = .ok (.putfield 1, 3) := dk_181 0 1 (dk_at dksX5_blame_0 2 rfl rfl)
theorem dX5_blame_5 : decode cX5_blame 5 = .ok (.aload_n 0, 1) := dk_42 (dk_at dksX5_blame_0 5 rfl rfl)
theorem dX5_blame_6 : decode cX5_blame 6 = .ok (.iload_n 1, 1) := dk_27 (dk_at dksX5_blame_0 6 rfl rfl)
theorem dX5_blame_7 : decode cX5_blame 7 = .ok (.invokevirtual 210, 3) := dk_182 0 210 (dk_at dksX5_blame_0 7 rfl rfl)
theorem dX5_blame_10 : decode cX5_blame 10 = .ok (.ifCond .eq 13, 3) := dk_153 0 13 (dk_at dksX5_blame_0 10 rfl rfl)
theorem dX5_blame_13 : decode cX5_blame 13 = .ok (.iload_n 2, 1) := dk_28 (dk_at dksX5_blame_0 13 rfl rfl)
theorem dX5_blame_14 : decode cX5_blame 14 = .ok (.i2l, 1) := dk_133 (dk_at dksX5_blame_0 14 rfl rfl)
theorem dX5_blame_15 : decode cX5_blame 15 = .ok (.lconst 0, 1) := dk_9 (dk_at dksX5_blame_0 15 rfl rfl)
theorem dX5_blame_16 : decode cX5_blame 16 = .ok (.lconst 1, 1) := dk_10 (dk_at dksX5_blame_0 16 rfl rfl)
theorem dX5_blame_17 : decode cX5_blame 17 = .ok (.invokestatic 152, 3) := dk_184 0 152 (dk_at dksX5_blame_0 17 rfl rfl)
theorem dX5_blame_20 : decode cX5_blame 20 = .ok (.ifCond .ne 11, 3) := dk_154 0 11 (dk_at dksX5_blame_0 20 rfl rfl)
theorem dX5_blame_23 : decode cX5_blame 23 = .ok (.aload_n 0, 1) := dk_42 (dk_at dksX5_blame_0 23 rfl rfl)
theorem dX5_blame_24 : decode cX5_blame 24 = .ok (.bipush (-2), 2) := dk_16 254 (dk_at dksX5_blame_1 0 rfl rfl)
theorem dX5_blame_26 : decode cX5_blame 26 = .ok (.invokevirtual 89, 3) := dk_182 0 89 (dk_at dksX5_blame_1 2 rfl rfl)
theorem dX5_blame_29 : decode cX5_blame 29 = .ok (.i2l, 1) := dk_133 (dk_at dksX5_blame_1 5 rfl rfl)
theorem dX5_blame_30 : decode cX5_blame 30 = .ok (.lreturn, 1) := dk_173 (dk_at dksX5_blame_1 6 rfl rfl)
theorem dX5_blame_31 : decode cX5_blame 31 = .ok (.aload_n 0, 1) := dk_42 (dk_at dksX5_blame_1 7 rfl rfl)
theorem dX5_blame_32 : decode cX5_blame 32 = .ok (.invokevirtual 296, 3) := dk_182 1 40 (dk_at dksX5_blame_1 8 rfl rfl)
theorem dX5_blame_35 : decode cX5_blame 35 = .ok (.iload_n 2, 1) := dk_28 (dk_at dksX5_blame_1 11 rfl rfl)
theorem dX5_blame_36 : decode cX5_blame 36 = .ok (.ifCond .ne 12, 3) := dk_154 0 12 (dk_at dksX5_blame_1 12 rfl rfl)
theorem dX5_blame_39 : decode cX5_blame 39 = .ok (.aload_n 0, 1) := dk_42 (dk_at dksX5_blame_1 15 rfl rfl)
theorem dX5_blame_40 : decode cX5_blame 40 = .ok (.getfield 58, 3) := dk_180 0 58 (dk_at dksX5_blame_1 16 rfl rfl)
theorem dX5_blame_43 : decode cX5_blame 43 = .ok (.iload_n 1, 1) := dk_27 (dk_at dksX5_blame_1 19 rfl rfl)
theorem dX5_blame_44 : decode cX5_blame 44 = .ok (.laload, 1) := dk_47 (dk_at dksX5_blame_1 20 rfl rfl)
theorem dX5_blame_45 : decode cX5_blame 45 = .ok (.goto 9, 3) := dk_167 0 9 (dk_at dksX5_blame_1 21 rfl rfl)
theorem dX5_blame_48 : decode cX5_blame 48 = .ok (.aload_n 0, 1) := dk_42 (dk_at dksX5_blame_2 0 rfl rfl)
theorem dX5_blame_49 : decode cX5_blame 49 = .ok (.getfield 61, 3) := dk_180 0 61 (dk_at dksX5_blame_2 1 rfl rfl)
theorem dX5_blame_52 : decode cX5_blame 52 = .ok (.iload_n 1, 1) := dk_27 (dk_at dksX5_blame_2 4 rfl rfl)
theorem dX5_blame_53 : decode cX5_blame 53 = .ok (.laload, 1) := dk_47 (dk_at dksX5_blame_2 5 rfl rfl)
theorem dX5_blame_54 : decode cX5_blame 54 = .ok (.lreturn, 1) := dk_173 (dk_at dksX5_blame_2 6 rfl rfl)
abbrev cX5_mean : ByteArray := prog_21_method_65_code
def yX5_mean : MethodName := ⟨RX5, "mean", "(I)J"⟩
def dkwX5_mean_2 : List UInt8 := [180, 0, 54, 6, 47, 167, 0, 7, 42, 182, 1, 36, 32, 109, 173]
abbrev dktX5_mean_2 : List UInt8 := dkwX5_mean_2 ++ []
def dkwX5_mean_1 : List UInt8 := [182, 1, 40, 42, 180, 0, 54, 6, 47, 42, 182, 1, 36, 184, 1, 54, 65, 27, 154, 0, 12, 42]
abbrev dktX5_mean_1 : List UInt8 := dkwX5_mean_1 ++ dktX5_mean_2
def dkwX5_mean_0 : List UInt8 := [42, 3, 181, 0, 1, 27, 133, 9, 10, 184, 0, 152, 154, 0, 11, 42, 16, 254, 182, 0, 89, 133, 173, 42]
abbrev dktX5_mean_0 : List UInt8 := dkwX5_mean_0 ++ dktX5_mean_1
theorem dksX5_mean_0 : cX5_mean.data.toList.drop 0 = dktX5_mean_0 := by decide +kernel
theorem dksX5_mean_1 : cX5_mean.data.toList.drop 24 = dktX5_mean_1 := dk_seg dksX5_mean_0 24 rfl rfl
theorem dksX5_mean_2 : cX5_mean.data.toList.drop 46 = dktX5_mean_2 := dk_seg dksX5_mean_1 22 rfl rfl
theorem dX5_mean_0 : decode cX5_mean 0 = .ok (.aload_n 0, 1) := dk_42 (dk_at dksX5_mean_0 0 rfl rfl)
theorem dX5_mean_1 : decode cX5_mean 1 = .ok (.iconst 0, 1) := dk_3 (dk_at dksX5_mean_0 1 rfl rfl)
theorem dX5_mean_2 : decode cX5_mean 2 = .ok (.putfield 1, 3) := dk_181 0 1 (dk_at dksX5_mean_0 2 rfl rfl)
theorem dX5_mean_5 : decode cX5_mean 5 = .ok (.iload_n 1, 1) := dk_27 (dk_at dksX5_mean_0 5 rfl rfl)
theorem dX5_mean_6 : decode cX5_mean 6 = .ok (.i2l, 1) := dk_133 (dk_at dksX5_mean_0 6 rfl rfl)
theorem dX5_mean_7 : decode cX5_mean 7 = .ok (.lconst 0, 1) := dk_9 (dk_at dksX5_mean_0 7 rfl rfl)
theorem dX5_mean_8 : decode cX5_mean 8 = .ok (.lconst 1, 1) := dk_10 (dk_at dksX5_mean_0 8 rfl rfl)
theorem dX5_mean_9 : decode cX5_mean 9 = .ok (.invokestatic 152, 3) := dk_184 0 152 (dk_at dksX5_mean_0 9 rfl rfl)
theorem dX5_mean_12 : decode cX5_mean 12 = .ok (.ifCond .ne 11, 3) := dk_154 0 11 (dk_at dksX5_mean_0 12 rfl rfl)
theorem dX5_mean_15 : decode cX5_mean 15 = .ok (.aload_n 0, 1) := dk_42 (dk_at dksX5_mean_0 15 rfl rfl)
theorem dX5_mean_16 : decode cX5_mean 16 = .ok (.bipush (-2), 2) := dk_16 254 (dk_at dksX5_mean_0 16 rfl rfl)
theorem dX5_mean_18 : decode cX5_mean 18 = .ok (.invokevirtual 89, 3) := dk_182 0 89 (dk_at dksX5_mean_0 18 rfl rfl)
theorem dX5_mean_21 : decode cX5_mean 21 = .ok (.i2l, 1) := dk_133 (dk_at dksX5_mean_0 21 rfl rfl)
theorem dX5_mean_22 : decode cX5_mean 22 = .ok (.lreturn, 1) := dk_173 (dk_at dksX5_mean_0 22 rfl rfl)
theorem dX5_mean_23 : decode cX5_mean 23 = .ok (.aload_n 0, 1) := dk_42 (dk_at dksX5_mean_0 23 rfl rfl)
theorem dX5_mean_24 : decode cX5_mean 24 = .ok (.invokevirtual 296, 3) := dk_182 1 40 (dk_at dksX5_mean_1 0 rfl rfl)
theorem dX5_mean_27 : decode cX5_mean 27 = .ok (.aload_n 0, 1) := dk_42 (dk_at dksX5_mean_1 3 rfl rfl)
theorem dX5_mean_28 : decode cX5_mean 28 = .ok (.getfield 54, 3) := dk_180 0 54 (dk_at dksX5_mean_1 4 rfl rfl)
theorem dX5_mean_31 : decode cX5_mean 31 = .ok (.iconst 3, 1) := dk_6 (dk_at dksX5_mean_1 7 rfl rfl)
theorem dX5_mean_32 : decode cX5_mean 32 = .ok (.laload, 1) := dk_47 (dk_at dksX5_mean_1 8 rfl rfl)
theorem dX5_mean_33 : decode cX5_mean 33 = .ok (.aload_n 0, 1) := dk_42 (dk_at dksX5_mean_1 9 rfl rfl)
theorem dX5_mean_34 : decode cX5_mean 34 = .ok (.invokevirtual 292, 3) := dk_182 1 36 (dk_at dksX5_mean_1 10 rfl rfl)
theorem dX5_mean_37 : decode cX5_mean 37 = .ok (.invokestatic 310, 3) := dk_184 1 54 (dk_at dksX5_mean_1 13 rfl rfl)
theorem dX5_mean_40 : decode cX5_mean 40 = .ok (.lstore_n 2, 1) := dk_65 (dk_at dksX5_mean_1 16 rfl rfl)
theorem dX5_mean_41 : decode cX5_mean 41 = .ok (.iload_n 1, 1) := dk_27 (dk_at dksX5_mean_1 17 rfl rfl)
theorem dX5_mean_42 : decode cX5_mean 42 = .ok (.ifCond .ne 12, 3) := dk_154 0 12 (dk_at dksX5_mean_1 18 rfl rfl)
theorem dX5_mean_45 : decode cX5_mean 45 = .ok (.aload_n 0, 1) := dk_42 (dk_at dksX5_mean_1 21 rfl rfl)
theorem dX5_mean_46 : decode cX5_mean 46 = .ok (.getfield 54, 3) := dk_180 0 54 (dk_at dksX5_mean_2 0 rfl rfl)
theorem dX5_mean_49 : decode cX5_mean 49 = .ok (.iconst 3, 1) := dk_6 (dk_at dksX5_mean_2 3 rfl rfl)
theorem dX5_mean_50 : decode cX5_mean 50 = .ok (.laload, 1) := dk_47 (dk_at dksX5_mean_2 4 rfl rfl)
theorem dX5_mean_51 : decode cX5_mean 51 = .ok (.goto 7, 3) := dk_167 0 7 (dk_at dksX5_mean_2 5 rfl rfl)
theorem dX5_mean_54 : decode cX5_mean 54 = .ok (.aload_n 0, 1) := dk_42 (dk_at dksX5_mean_2 8 rfl rfl)
theorem dX5_mean_55 : decode cX5_mean 55 = .ok (.invokevirtual 292, 3) := dk_182 1 36 (dk_at dksX5_mean_2 9 rfl rfl)
theorem dX5_mean_58 : decode cX5_mean 58 = .ok (.lload_n 2, 1) := dk_32 (dk_at dksX5_mean_2 12 rfl rfl)
theorem dX5_mean_59 : decode cX5_mean 59 = .ok (.ldiv, 1) := dk_109 (dk_at dksX5_mean_2 13 rfl rfl)
theorem dX5_mean_60 : decode cX5_mean 60 = .ok (.lreturn, 1) := dk_173 (dk_at dksX5_mean_2 14 rfl rfl)
abbrev cX5_common : ByteArray := prog_21_method_74_code
def yX5_common : MethodName := ⟨RX5, "common", "(JJ)J"⟩
def dkwX5_common_1 : List UInt8 := [22, 8, 55, 6, 167, 255, 234, 22, 4, 173]
abbrev dktX5_common_1 : List UInt8 := dkwX5_common_1 ++ []
def dkwX5_common_0 : List UInt8 := [30, 55, 4, 32, 55, 6, 22, 6, 9, 148, 153, 0, 21, 22, 4, 22, 6, 113, 55, 8, 22, 6, 55, 4]
abbrev dktX5_common_0 : List UInt8 := dkwX5_common_0 ++ dktX5_common_1
theorem dksX5_common_0 : cX5_common.data.toList.drop 0 = dktX5_common_0 := by decide +kernel
theorem dksX5_common_1 : cX5_common.data.toList.drop 24 = dktX5_common_1 := dk_seg dksX5_common_0 24 rfl rfl
theorem dX5_common_0 : decode cX5_common 0 = .ok (.lload_n 0, 1) := dk_30 (dk_at dksX5_common_0 0 rfl rfl)
theorem dX5_common_1 : decode cX5_common 1 = .ok (.lstore 4, 2) := dk_55 4 (dk_at dksX5_common_0 1 rfl rfl)
theorem dX5_common_3 : decode cX5_common 3 = .ok (.lload_n 2, 1) := dk_32 (dk_at dksX5_common_0 3 rfl rfl)
theorem dX5_common_4 : decode cX5_common 4 = .ok (.lstore 6, 2) := dk_55 6 (dk_at dksX5_common_0 4 rfl rfl)
theorem dX5_common_6 : decode cX5_common 6 = .ok (.lload 6, 2) := dk_22 6 (dk_at dksX5_common_0 6 rfl rfl)
theorem dX5_common_8 : decode cX5_common 8 = .ok (.lconst 0, 1) := dk_9 (dk_at dksX5_common_0 8 rfl rfl)
theorem dX5_common_9 : decode cX5_common 9 = .ok (.lcmp, 1) := dk_148 (dk_at dksX5_common_0 9 rfl rfl)
theorem dX5_common_10 : decode cX5_common 10 = .ok (.ifCond .eq 21, 3) := dk_153 0 21 (dk_at dksX5_common_0 10 rfl rfl)
theorem dX5_common_13 : decode cX5_common 13 = .ok (.lload 4, 2) := dk_22 4 (dk_at dksX5_common_0 13 rfl rfl)
theorem dX5_common_15 : decode cX5_common 15 = .ok (.lload 6, 2) := dk_22 6 (dk_at dksX5_common_0 15 rfl rfl)
theorem dX5_common_17 : decode cX5_common 17 = .ok (.lrem, 1) := dk_113 (dk_at dksX5_common_0 17 rfl rfl)
theorem dX5_common_18 : decode cX5_common 18 = .ok (.lstore 8, 2) := dk_55 8 (dk_at dksX5_common_0 18 rfl rfl)
theorem dX5_common_20 : decode cX5_common 20 = .ok (.lload 6, 2) := dk_22 6 (dk_at dksX5_common_0 20 rfl rfl)
theorem dX5_common_22 : decode cX5_common 22 = .ok (.lstore 4, 2) := dk_55 4 (dk_at dksX5_common_0 22 rfl rfl)
theorem dX5_common_24 : decode cX5_common 24 = .ok (.lload 8, 2) := dk_22 8 (dk_at dksX5_common_1 0 rfl rfl)
theorem dX5_common_26 : decode cX5_common 26 = .ok (.lstore 6, 2) := dk_55 6 (dk_at dksX5_common_1 2 rfl rfl)
theorem dX5_common_28 : decode cX5_common 28 = .ok (.goto (-22), 3) := dk_167 255 234 (dk_at dksX5_common_1 4 rfl rfl)
theorem dX5_common_31 : decode cX5_common 31 = .ok (.lload 4, 2) := dk_22 4 (dk_at dksX5_common_1 7 rfl rfl)
theorem dX5_common_33 : decode cX5_common 33 = .ok (.lreturn, 1) := dk_173 (dk_at dksX5_common_1 9 rfl rfl)
abbrev cX5_repeals : ByteArray := prog_21_method_66_code
def yX5_repeals : MethodName := ⟨RX5, "repeals", "(I)J"⟩
def dkwX5_repeals_2 : List UInt8 := [32, 42, 3, 182, 1, 43, 101, 173]
abbrev dktX5_repeals_2 : List UInt8 := dkwX5_repeals_2 ++ []
def dkwX5_repeals_1 : List UInt8 := [42, 16, 254, 182, 0, 89, 133, 173, 42, 27, 181, 0, 42, 42, 3, 182, 1, 43, 65, 42, 2, 181, 0, 42]
abbrev dktX5_repeals_1 : List UInt8 := dkwX5_repeals_1 ++ dktX5_repeals_2
def dkwX5_repeals_0 : List UInt8 := [42, 3, 181, 0, 1, 27, 133, 9, 42, 180, 0, 17, 16, 40, 46, 4, 100, 133, 184, 0, 152, 154, 0, 11]
abbrev dktX5_repeals_0 : List UInt8 := dkwX5_repeals_0 ++ dktX5_repeals_1
theorem dksX5_repeals_0 : cX5_repeals.data.toList.drop 0 = dktX5_repeals_0 := by decide +kernel
theorem dksX5_repeals_1 : cX5_repeals.data.toList.drop 24 = dktX5_repeals_1 := dk_seg dksX5_repeals_0 24 rfl rfl
theorem dksX5_repeals_2 : cX5_repeals.data.toList.drop 48 = dktX5_repeals_2 := dk_seg dksX5_repeals_1 24 rfl rfl
theorem dX5_repeals_0 : decode cX5_repeals 0 = .ok (.aload_n 0, 1) := dk_42 (dk_at dksX5_repeals_0 0 rfl rfl)
theorem dX5_repeals_1 : decode cX5_repeals 1 = .ok (.iconst 0, 1) := dk_3 (dk_at dksX5_repeals_0 1 rfl rfl)
theorem dX5_repeals_2 : decode cX5_repeals 2 = .ok (.putfield 1, 3) := dk_181 0 1 (dk_at dksX5_repeals_0 2 rfl rfl)
theorem dX5_repeals_5 : decode cX5_repeals 5 = .ok (.iload_n 1, 1) := dk_27 (dk_at dksX5_repeals_0 5 rfl rfl)
theorem dX5_repeals_6 : decode cX5_repeals 6 = .ok (.i2l, 1) := dk_133 (dk_at dksX5_repeals_0 6 rfl rfl)
theorem dX5_repeals_7 : decode cX5_repeals 7 = .ok (.lconst 0, 1) := dk_9 (dk_at dksX5_repeals_0 7 rfl rfl)
theorem dX5_repeals_8 : decode cX5_repeals 8 = .ok (.aload_n 0, 1) := dk_42 (dk_at dksX5_repeals_0 8 rfl rfl)
theorem dX5_repeals_9 : decode cX5_repeals 9 = .ok (.getfield 17, 3) := dk_180 0 17 (dk_at dksX5_repeals_0 9 rfl rfl)
theorem dX5_repeals_12 : decode cX5_repeals 12 = .ok (.bipush 40, 2) := dk_16 40 (dk_at dksX5_repeals_0 12 rfl rfl)
theorem dX5_repeals_14 : decode cX5_repeals 14 = .ok (.iaload, 1) := dk_46 (dk_at dksX5_repeals_0 14 rfl rfl)
theorem dX5_repeals_15 : decode cX5_repeals 15 = .ok (.iconst 1, 1) := dk_4 (dk_at dksX5_repeals_0 15 rfl rfl)
theorem dX5_repeals_16 : decode cX5_repeals 16 = .ok (.isub, 1) := dk_100 (dk_at dksX5_repeals_0 16 rfl rfl)
theorem dX5_repeals_17 : decode cX5_repeals 17 = .ok (.i2l, 1) := dk_133 (dk_at dksX5_repeals_0 17 rfl rfl)
theorem dX5_repeals_18 : decode cX5_repeals 18 = .ok (.invokestatic 152, 3) := dk_184 0 152 (dk_at dksX5_repeals_0 18 rfl rfl)
theorem dX5_repeals_21 : decode cX5_repeals 21 = .ok (.ifCond .ne 11, 3) := dk_154 0 11 (dk_at dksX5_repeals_0 21 rfl rfl)
theorem dX5_repeals_24 : decode cX5_repeals 24 = .ok (.aload_n 0, 1) := dk_42 (dk_at dksX5_repeals_1 0 rfl rfl)
theorem dX5_repeals_25 : decode cX5_repeals 25 = .ok (.bipush (-2), 2) := dk_16 254 (dk_at dksX5_repeals_1 1 rfl rfl)
theorem dX5_repeals_27 : decode cX5_repeals 27 = .ok (.invokevirtual 89, 3) := dk_182 0 89 (dk_at dksX5_repeals_1 3 rfl rfl)
theorem dX5_repeals_30 : decode cX5_repeals 30 = .ok (.i2l, 1) := dk_133 (dk_at dksX5_repeals_1 6 rfl rfl)
theorem dX5_repeals_31 : decode cX5_repeals 31 = .ok (.lreturn, 1) := dk_173 (dk_at dksX5_repeals_1 7 rfl rfl)
theorem dX5_repeals_32 : decode cX5_repeals 32 = .ok (.aload_n 0, 1) := dk_42 (dk_at dksX5_repeals_1 8 rfl rfl)
theorem dX5_repeals_33 : decode cX5_repeals 33 = .ok (.iload_n 1, 1) := dk_27 (dk_at dksX5_repeals_1 9 rfl rfl)
theorem dX5_repeals_34 : decode cX5_repeals 34 = .ok (.putfield 42, 3) := dk_181 0 42 (dk_at dksX5_repeals_1 10 rfl rfl)
theorem dX5_repeals_37 : decode cX5_repeals 37 = .ok (.aload_n 0, 1) := dk_42 (dk_at dksX5_repeals_1 13 rfl rfl)
theorem dX5_repeals_38 : decode cX5_repeals 38 = .ok (.iconst 0, 1) := dk_3 (dk_at dksX5_repeals_1 14 rfl rfl)
theorem dX5_repeals_39 : decode cX5_repeals 39 = .ok (.invokevirtual 299, 3) := dk_182 1 43 (dk_at dksX5_repeals_1 15 rfl rfl)
theorem dX5_repeals_42 : decode cX5_repeals 42 = .ok (.lstore_n 2, 1) := dk_65 (dk_at dksX5_repeals_1 18 rfl rfl)
theorem dX5_repeals_43 : decode cX5_repeals 43 = .ok (.aload_n 0, 1) := dk_42 (dk_at dksX5_repeals_1 19 rfl rfl)
theorem dX5_repeals_44 : decode cX5_repeals 44 = .ok (.iconst (-1), 1) := dk_2 (dk_at dksX5_repeals_1 20 rfl rfl)
theorem dX5_repeals_45 : decode cX5_repeals 45 = .ok (.putfield 42, 3) := dk_181 0 42 (dk_at dksX5_repeals_1 21 rfl rfl)
theorem dX5_repeals_48 : decode cX5_repeals 48 = .ok (.lload_n 2, 1) := dk_32 (dk_at dksX5_repeals_2 0 rfl rfl)
theorem dX5_repeals_49 : decode cX5_repeals 49 = .ok (.aload_n 0, 1) := dk_42 (dk_at dksX5_repeals_2 1 rfl rfl)
theorem dX5_repeals_50 : decode cX5_repeals 50 = .ok (.iconst 0, 1) := dk_3 (dk_at dksX5_repeals_2 2 rfl rfl)
theorem dX5_repeals_51 : decode cX5_repeals 51 = .ok (.invokevirtual 299, 3) := dk_182 1 43 (dk_at dksX5_repeals_2 3 rfl rfl)
theorem dX5_repeals_54 : decode cX5_repeals 54 = .ok (.lsub, 1) := dk_101 (dk_at dksX5_repeals_2 6 rfl rfl)
theorem dX5_repeals_55 : decode cX5_repeals 55 = .ok (.lreturn, 1) := dk_173 (dk_at dksX5_repeals_2 7 rfl rfl)
abbrev cX5_absent : ByteArray := prog_21_method_67_code
def yX5_absent : MethodName := ⟨RX5, "absent", "(I)J"⟩
def dkwX5_absent_2 : List UInt8 := [42, 180, 0, 54, 4, 47, 101, 173]
abbrev dktX5_absent_2 : List UInt8 := dkwX5_absent_2 ++ []
def dkwX5_absent_1 : List UInt8 := [181, 0, 45, 42, 182, 1, 40, 42, 180, 0, 54, 4, 47, 65, 42, 2, 181, 0, 45, 42, 182, 1, 40, 32]
abbrev dktX5_absent_1 : List UInt8 := dkwX5_absent_1 ++ dktX5_absent_2
def dkwX5_absent_0 : List UInt8 := [42, 3, 181, 0, 1, 42, 27, 182, 0, 210, 154, 0, 11, 42, 16, 254, 182, 0, 89, 133, 173, 42, 27]
abbrev dktX5_absent_0 : List UInt8 := dkwX5_absent_0 ++ dktX5_absent_1
theorem dksX5_absent_0 : cX5_absent.data.toList.drop 0 = dktX5_absent_0 := by decide +kernel
theorem dksX5_absent_1 : cX5_absent.data.toList.drop 23 = dktX5_absent_1 := dk_seg dksX5_absent_0 23 rfl rfl
theorem dksX5_absent_2 : cX5_absent.data.toList.drop 47 = dktX5_absent_2 := dk_seg dksX5_absent_1 24 rfl rfl
theorem dX5_absent_0 : decode cX5_absent 0 = .ok (.aload_n 0, 1) := dk_42 (dk_at dksX5_absent_0 0 rfl rfl)
theorem dX5_absent_1 : decode cX5_absent 1 = .ok (.iconst 0, 1) := dk_3 (dk_at dksX5_absent_0 1 rfl rfl)
theorem dX5_absent_2 : decode cX5_absent 2 = .ok (.putfield 1, 3) := dk_181 0 1 (dk_at dksX5_absent_0 2 rfl rfl)
theorem dX5_absent_5 : decode cX5_absent 5 = .ok (.aload_n 0, 1) := dk_42 (dk_at dksX5_absent_0 5 rfl rfl)
theorem dX5_absent_6 : decode cX5_absent 6 = .ok (.iload_n 1, 1) := dk_27 (dk_at dksX5_absent_0 6 rfl rfl)
theorem dX5_absent_7 : decode cX5_absent 7 = .ok (.invokevirtual 210, 3) := dk_182 0 210 (dk_at dksX5_absent_0 7 rfl rfl)
theorem dX5_absent_10 : decode cX5_absent 10 = .ok (.ifCond .ne 11, 3) := dk_154 0 11 (dk_at dksX5_absent_0 10 rfl rfl)
theorem dX5_absent_13 : decode cX5_absent 13 = .ok (.aload_n 0, 1) := dk_42 (dk_at dksX5_absent_0 13 rfl rfl)
theorem dX5_absent_14 : decode cX5_absent 14 = .ok (.bipush (-2), 2) := dk_16 254 (dk_at dksX5_absent_0 14 rfl rfl)
theorem dX5_absent_16 : decode cX5_absent 16 = .ok (.invokevirtual 89, 3) := dk_182 0 89 (dk_at dksX5_absent_0 16 rfl rfl)
theorem dX5_absent_19 : decode cX5_absent 19 = .ok (.i2l, 1) := dk_133 (dk_at dksX5_absent_0 19 rfl rfl)
theorem dX5_absent_20 : decode cX5_absent 20 = .ok (.lreturn, 1) := dk_173 (dk_at dksX5_absent_0 20 rfl rfl)
theorem dX5_absent_21 : decode cX5_absent 21 = .ok (.aload_n 0, 1) := dk_42 (dk_at dksX5_absent_0 21 rfl rfl)
theorem dX5_absent_22 : decode cX5_absent 22 = .ok (.iload_n 1, 1) := dk_27 (dk_at dksX5_absent_0 22 rfl rfl)
theorem dX5_absent_23 : decode cX5_absent 23 = .ok (.putfield 45, 3) := dk_181 0 45 (dk_at dksX5_absent_1 0 rfl rfl)
theorem dX5_absent_26 : decode cX5_absent 26 = .ok (.aload_n 0, 1) := dk_42 (dk_at dksX5_absent_1 3 rfl rfl)
theorem dX5_absent_27 : decode cX5_absent 27 = .ok (.invokevirtual 296, 3) := dk_182 1 40 (dk_at dksX5_absent_1 4 rfl rfl)
theorem dX5_absent_30 : decode cX5_absent 30 = .ok (.aload_n 0, 1) := dk_42 (dk_at dksX5_absent_1 7 rfl rfl)
theorem dX5_absent_31 : decode cX5_absent 31 = .ok (.getfield 54, 3) := dk_180 0 54 (dk_at dksX5_absent_1 8 rfl rfl)
theorem dX5_absent_34 : decode cX5_absent 34 = .ok (.iconst 1, 1) := dk_4 (dk_at dksX5_absent_1 11 rfl rfl)
theorem dX5_absent_35 : decode cX5_absent 35 = .ok (.laload, 1) := dk_47 (dk_at dksX5_absent_1 12 rfl rfl)
theorem dX5_absent_36 : decode cX5_absent 36 = .ok (.lstore_n 2, 1) := dk_65 (dk_at dksX5_absent_1 13 rfl rfl)
theorem dX5_absent_37 : decode cX5_absent 37 = .ok (.aload_n 0, 1) := dk_42 (dk_at dksX5_absent_1 14 rfl rfl)
theorem dX5_absent_38 : decode cX5_absent 38 = .ok (.iconst (-1), 1) := dk_2 (dk_at dksX5_absent_1 15 rfl rfl)
theorem dX5_absent_39 : decode cX5_absent 39 = .ok (.putfield 45, 3) := dk_181 0 45 (dk_at dksX5_absent_1 16 rfl rfl)
theorem dX5_absent_42 : decode cX5_absent 42 = .ok (.aload_n 0, 1) := dk_42 (dk_at dksX5_absent_1 19 rfl rfl)
theorem dX5_absent_43 : decode cX5_absent 43 = .ok (.invokevirtual 296, 3) := dk_182 1 40 (dk_at dksX5_absent_1 20 rfl rfl)
theorem dX5_absent_46 : decode cX5_absent 46 = .ok (.lload_n 2, 1) := dk_32 (dk_at dksX5_absent_1 23 rfl rfl)
theorem dX5_absent_47 : decode cX5_absent 47 = .ok (.aload_n 0, 1) := dk_42 (dk_at dksX5_absent_2 0 rfl rfl)
theorem dX5_absent_48 : decode cX5_absent 48 = .ok (.getfield 54, 3) := dk_180 0 54 (dk_at dksX5_absent_2 1 rfl rfl)
theorem dX5_absent_51 : decode cX5_absent 51 = .ok (.iconst 1, 1) := dk_4 (dk_at dksX5_absent_2 4 rfl rfl)
theorem dX5_absent_52 : decode cX5_absent 52 = .ok (.laload, 1) := dk_47 (dk_at dksX5_absent_2 5 rfl rfl)
theorem dX5_absent_53 : decode cX5_absent 53 = .ok (.lsub, 1) := dk_101 (dk_at dksX5_absent_2 6 rfl rfl)
theorem dX5_absent_54 : decode cX5_absent 54 = .ok (.lreturn, 1) := dk_173 (dk_at dksX5_absent_2 7 rfl rfl)
abbrev cX5_margin : ByteArray := prog_21_method_68_code
def yX5_margin : MethodName := ⟨RX5, "margin", "(I)I"⟩
def dkwX5_margin_5 : List UInt8 := [167, 255, 152, 28, 172]
abbrev dktX5_margin_5 : List UInt8 := dkwX5_margin_5 ++ []
def dkwX5_margin_4 : List UInt8 := [29, 96, 46, 28, 162, 0, 12, 42, 180, 0, 33, 3, 29, 96, 46, 61, 132, 3, 1, 167, 255, 177]
abbrev dktX5_margin_4 : List UInt8 := dkwX5_margin_4 ++ dktX5_margin_5
def dkwX5_margin_3 : List UInt8 := [160, 0, 40, 42, 180, 0, 33, 3, 29, 96, 46, 158, 0, 29, 28, 2, 159, 0, 15, 42, 180, 0, 33, 3]
abbrev dktX5_margin_3 : List UInt8 := dkwX5_margin_3 ++ dktX5_margin_4
def dkwX5_margin_2 : List UInt8 := [16, 33, 46, 4, 160, 0, 64, 42, 180, 0, 17, 5, 29, 96, 46, 42, 180, 0, 33, 16, 32, 46]
abbrev dktX5_margin_2 : List UInt8 := dkwX5_margin_2 ++ dktX5_margin_3
def dkwX5_margin_1 : List UInt8 := [182, 1, 12, 87, 42, 182, 1, 16, 3, 62, 29, 42, 180, 0, 17, 4, 46, 162, 0, 75, 42, 180, 0, 33]
abbrev dktX5_margin_1 : List UInt8 := dkwX5_margin_1 ++ dktX5_margin_2
def dkwX5_margin_0 : List UInt8 := [42, 3, 181, 0, 1, 42, 27, 182, 0, 240, 2, 61, 42, 180, 0, 33, 16, 37, 46, 154, 0, 100, 42, 4]
abbrev dktX5_margin_0 : List UInt8 := dkwX5_margin_0 ++ dktX5_margin_1
theorem dksX5_margin_0 : cX5_margin.data.toList.drop 0 = dktX5_margin_0 := by decide +kernel
theorem dksX5_margin_1 : cX5_margin.data.toList.drop 24 = dktX5_margin_1 := dk_seg dksX5_margin_0 24 rfl rfl
theorem dksX5_margin_2 : cX5_margin.data.toList.drop 48 = dktX5_margin_2 := dk_seg dksX5_margin_1 24 rfl rfl
theorem dksX5_margin_3 : cX5_margin.data.toList.drop 70 = dktX5_margin_3 := dk_seg dksX5_margin_2 22 rfl rfl
theorem dksX5_margin_4 : cX5_margin.data.toList.drop 94 = dktX5_margin_4 := dk_seg dksX5_margin_3 24 rfl rfl
theorem dksX5_margin_5 : cX5_margin.data.toList.drop 116 = dktX5_margin_5 := dk_seg dksX5_margin_4 22 rfl rfl
theorem dX5_margin_0 : decode cX5_margin 0 = .ok (.aload_n 0, 1) := dk_42 (dk_at dksX5_margin_0 0 rfl rfl)
theorem dX5_margin_1 : decode cX5_margin 1 = .ok (.iconst 0, 1) := dk_3 (dk_at dksX5_margin_0 1 rfl rfl)
theorem dX5_margin_2 : decode cX5_margin 2 = .ok (.putfield 1, 3) := dk_181 0 1 (dk_at dksX5_margin_0 2 rfl rfl)
theorem dX5_margin_5 : decode cX5_margin 5 = .ok (.aload_n 0, 1) := dk_42 (dk_at dksX5_margin_0 5 rfl rfl)
theorem dX5_margin_6 : decode cX5_margin 6 = .ok (.iload_n 1, 1) := dk_27 (dk_at dksX5_margin_0 6 rfl rfl)
theorem dX5_margin_7 : decode cX5_margin 7 = .ok (.invokevirtual 240, 3) := dk_182 0 240 (dk_at dksX5_margin_0 7 rfl rfl)
theorem dX5_margin_10 : decode cX5_margin 10 = .ok (.iconst (-1), 1) := dk_2 (dk_at dksX5_margin_0 10 rfl rfl)
theorem dX5_margin_11 : decode cX5_margin 11 = .ok (.istore_n 2, 1) := dk_61 (dk_at dksX5_margin_0 11 rfl rfl)
theorem dX5_margin_12 : decode cX5_margin 12 = .ok (.aload_n 0, 1) := dk_42 (dk_at dksX5_margin_0 12 rfl rfl)
theorem dX5_margin_13 : decode cX5_margin 13 = .ok (.getfield 33, 3) := dk_180 0 33 (dk_at dksX5_margin_0 13 rfl rfl)
theorem dX5_margin_16 : decode cX5_margin 16 = .ok (.bipush 37, 2) := dk_16 37 (dk_at dksX5_margin_0 16 rfl rfl)
theorem dX5_margin_18 : decode cX5_margin 18 = .ok (.iaload, 1) := dk_46 (dk_at dksX5_margin_0 18 rfl rfl)
theorem dX5_margin_19 : decode cX5_margin 19 = .ok (.ifCond .ne 100, 3) := dk_154 0 100 (dk_at dksX5_margin_0 19 rfl rfl)
theorem dX5_margin_22 : decode cX5_margin 22 = .ok (.aload_n 0, 1) := dk_42 (dk_at dksX5_margin_0 22 rfl rfl)
theorem dX5_margin_23 : decode cX5_margin 23 = .ok (.iconst 1, 1) := dk_4 (dk_at dksX5_margin_0 23 rfl rfl)
theorem dX5_margin_24 : decode cX5_margin 24 = .ok (.invokevirtual 268, 3) := dk_182 1 12 (dk_at dksX5_margin_1 0 rfl rfl)
theorem dX5_margin_27 : decode cX5_margin 27 = .ok (.pop, 1) := dk_87 (dk_at dksX5_margin_1 3 rfl rfl)
theorem dX5_margin_28 : decode cX5_margin 28 = .ok (.aload_n 0, 1) := dk_42 (dk_at dksX5_margin_1 4 rfl rfl)
theorem dX5_margin_29 : decode cX5_margin 29 = .ok (.invokevirtual 272, 3) := dk_182 1 16 (dk_at dksX5_margin_1 5 rfl rfl)
theorem dX5_margin_32 : decode cX5_margin 32 = .ok (.iconst 0, 1) := dk_3 (dk_at dksX5_margin_1 8 rfl rfl)
theorem dX5_margin_33 : decode cX5_margin 33 = .ok (.istore_n 3, 1) := dk_62 (dk_at dksX5_margin_1 9 rfl rfl)
theorem dX5_margin_34 : decode cX5_margin 34 = .ok (.iload_n 3, 1) := dk_29 (dk_at dksX5_margin_1 10 rfl rfl)
theorem dX5_margin_35 : decode cX5_margin 35 = .ok (.aload_n 0, 1) := dk_42 (dk_at dksX5_margin_1 11 rfl rfl)
theorem dX5_margin_36 : decode cX5_margin 36 = .ok (.getfield 17, 3) := dk_180 0 17 (dk_at dksX5_margin_1 12 rfl rfl)
theorem dX5_margin_39 : decode cX5_margin 39 = .ok (.iconst 1, 1) := dk_4 (dk_at dksX5_margin_1 15 rfl rfl)
theorem dX5_margin_40 : decode cX5_margin 40 = .ok (.iaload, 1) := dk_46 (dk_at dksX5_margin_1 16 rfl rfl)
theorem dX5_margin_41 : decode cX5_margin 41 = .ok (.if_icmp .ge 75, 3) := dk_162 0 75 (dk_at dksX5_margin_1 17 rfl rfl)
theorem dX5_margin_44 : decode cX5_margin 44 = .ok (.aload_n 0, 1) := dk_42 (dk_at dksX5_margin_1 20 rfl rfl)
theorem dX5_margin_45 : decode cX5_margin 45 = .ok (.getfield 33, 3) := dk_180 0 33 (dk_at dksX5_margin_1 21 rfl rfl)
theorem dX5_margin_48 : decode cX5_margin 48 = .ok (.bipush 33, 2) := dk_16 33 (dk_at dksX5_margin_2 0 rfl rfl)
theorem dX5_margin_50 : decode cX5_margin 50 = .ok (.iaload, 1) := dk_46 (dk_at dksX5_margin_2 2 rfl rfl)
theorem dX5_margin_51 : decode cX5_margin 51 = .ok (.iconst 1, 1) := dk_4 (dk_at dksX5_margin_2 3 rfl rfl)
theorem dX5_margin_52 : decode cX5_margin 52 = .ok (.if_icmp .ne 64, 3) := dk_160 0 64 (dk_at dksX5_margin_2 4 rfl rfl)
theorem dX5_margin_55 : decode cX5_margin 55 = .ok (.aload_n 0, 1) := dk_42 (dk_at dksX5_margin_2 7 rfl rfl)
theorem dX5_margin_56 : decode cX5_margin 56 = .ok (.getfield 17, 3) := dk_180 0 17 (dk_at dksX5_margin_2 8 rfl rfl)
theorem dX5_margin_59 : decode cX5_margin 59 = .ok (.iconst 2, 1) := dk_5 (dk_at dksX5_margin_2 11 rfl rfl)
theorem dX5_margin_60 : decode cX5_margin 60 = .ok (.iload_n 3, 1) := dk_29 (dk_at dksX5_margin_2 12 rfl rfl)
theorem dX5_margin_61 : decode cX5_margin 61 = .ok (.iadd, 1) := dk_96 (dk_at dksX5_margin_2 13 rfl rfl)
theorem dX5_margin_62 : decode cX5_margin 62 = .ok (.iaload, 1) := dk_46 (dk_at dksX5_margin_2 14 rfl rfl)
theorem dX5_margin_63 : decode cX5_margin 63 = .ok (.aload_n 0, 1) := dk_42 (dk_at dksX5_margin_2 15 rfl rfl)
theorem dX5_margin_64 : decode cX5_margin 64 = .ok (.getfield 33, 3) := dk_180 0 33 (dk_at dksX5_margin_2 16 rfl rfl)
theorem dX5_margin_67 : decode cX5_margin 67 = .ok (.bipush 32, 2) := dk_16 32 (dk_at dksX5_margin_2 19 rfl rfl)
theorem dX5_margin_69 : decode cX5_margin 69 = .ok (.iaload, 1) := dk_46 (dk_at dksX5_margin_2 21 rfl rfl)
theorem dX5_margin_70 : decode cX5_margin 70 = .ok (.if_icmp .ne 40, 3) := dk_160 0 40 (dk_at dksX5_margin_3 0 rfl rfl)
theorem dX5_margin_73 : decode cX5_margin 73 = .ok (.aload_n 0, 1) := dk_42 (dk_at dksX5_margin_3 3 rfl rfl)
theorem dX5_margin_74 : decode cX5_margin 74 = .ok (.getfield 33, 3) := dk_180 0 33 (dk_at dksX5_margin_3 4 rfl rfl)
theorem dX5_margin_77 : decode cX5_margin 77 = .ok (.iconst 0, 1) := dk_3 (dk_at dksX5_margin_3 7 rfl rfl)
theorem dX5_margin_78 : decode cX5_margin 78 = .ok (.iload_n 3, 1) := dk_29 (dk_at dksX5_margin_3 8 rfl rfl)
theorem dX5_margin_79 : decode cX5_margin 79 = .ok (.iadd, 1) := dk_96 (dk_at dksX5_margin_3 9 rfl rfl)
theorem dX5_margin_80 : decode cX5_margin 80 = .ok (.iaload, 1) := dk_46 (dk_at dksX5_margin_3 10 rfl rfl)
theorem dX5_margin_81 : decode cX5_margin 81 = .ok (.ifCond .le 29, 3) := dk_158 0 29 (dk_at dksX5_margin_3 11 rfl rfl)
theorem dX5_margin_84 : decode cX5_margin 84 = .ok (.iload_n 2, 1) := dk_28 (dk_at dksX5_margin_3 14 rfl rfl)
theorem dX5_margin_85 : decode cX5_margin 85 = .ok (.iconst (-1), 1) := dk_2 (dk_at dksX5_margin_3 15 rfl rfl)
theorem dX5_margin_86 : decode cX5_margin 86 = .ok (.if_icmp .eq 15, 3) := dk_159 0 15 (dk_at dksX5_margin_3 16 rfl rfl)
theorem dX5_margin_89 : decode cX5_margin 89 = .ok (.aload_n 0, 1) := dk_42 (dk_at dksX5_margin_3 19 rfl rfl)
theorem dX5_margin_90 : decode cX5_margin 90 = .ok (.getfield 33, 3) := dk_180 0 33 (dk_at dksX5_margin_3 20 rfl rfl)
theorem dX5_margin_93 : decode cX5_margin 93 = .ok (.iconst 0, 1) := dk_3 (dk_at dksX5_margin_3 23 rfl rfl)
theorem dX5_margin_94 : decode cX5_margin 94 = .ok (.iload_n 3, 1) := dk_29 (dk_at dksX5_margin_4 0 rfl rfl)
theorem dX5_margin_95 : decode cX5_margin 95 = .ok (.iadd, 1) := dk_96 (dk_at dksX5_margin_4 1 rfl rfl)
theorem dX5_margin_96 : decode cX5_margin 96 = .ok (.iaload, 1) := dk_46 (dk_at dksX5_margin_4 2 rfl rfl)
theorem dX5_margin_97 : decode cX5_margin 97 = .ok (.iload_n 2, 1) := dk_28 (dk_at dksX5_margin_4 3 rfl rfl)
theorem dX5_margin_98 : decode cX5_margin 98 = .ok (.if_icmp .ge 12, 3) := dk_162 0 12 (dk_at dksX5_margin_4 4 rfl rfl)
theorem dX5_margin_101 : decode cX5_margin 101 = .ok (.aload_n 0, 1) := dk_42 (dk_at dksX5_margin_4 7 rfl rfl)
theorem dX5_margin_102 : decode cX5_margin 102 = .ok (.getfield 33, 3) := dk_180 0 33 (dk_at dksX5_margin_4 8 rfl rfl)
theorem dX5_margin_105 : decode cX5_margin 105 = .ok (.iconst 0, 1) := dk_3 (dk_at dksX5_margin_4 11 rfl rfl)
theorem dX5_margin_106 : decode cX5_margin 106 = .ok (.iload_n 3, 1) := dk_29 (dk_at dksX5_margin_4 12 rfl rfl)
theorem dX5_margin_107 : decode cX5_margin 107 = .ok (.iadd, 1) := dk_96 (dk_at dksX5_margin_4 13 rfl rfl)
theorem dX5_margin_108 : decode cX5_margin 108 = .ok (.iaload, 1) := dk_46 (dk_at dksX5_margin_4 14 rfl rfl)
theorem dX5_margin_109 : decode cX5_margin 109 = .ok (.istore_n 2, 1) := dk_61 (dk_at dksX5_margin_4 15 rfl rfl)
theorem dX5_margin_110 : decode cX5_margin 110 = .ok (.iinc 3 1, 3) := dk_132 3 1 (dk_at dksX5_margin_4 16 rfl rfl)
theorem dX5_margin_113 : decode cX5_margin 113 = .ok (.goto (-79), 3) := dk_167 255 177 (dk_at dksX5_margin_4 19 rfl rfl)
theorem dX5_margin_116 : decode cX5_margin 116 = .ok (.goto (-104), 3) := dk_167 255 152 (dk_at dksX5_margin_5 0 rfl rfl)
theorem dX5_margin_119 : decode cX5_margin 119 = .ok (.iload_n 2, 1) := dk_28 (dk_at dksX5_margin_5 3 rfl rfl)
theorem dX5_margin_120 : decode cX5_margin 120 = .ok (.ireturn, 1) := dk_172 (dk_at dksX5_margin_5 4 rfl rfl)
abbrev cX5_place : ByteArray := prog_21_method_69_code
def yX5_place : MethodName := ⟨RX5, "place", "(ZIIII)I"⟩
def dkwX5_place_7 : List UInt8 := [17, 2, 26, 21, 6, 96, 3, 79, 42, 180, 0, 17, 17, 1, 221, 92, 46, 4, 96, 79, 21, 6, 172]
abbrev dktX5_place_7 : List UInt8 := dkwX5_place_7 ++ []
def dkwX5_place_6 : List UInt8 := [21, 6, 96, 21, 4, 79, 42, 180, 0, 17, 17, 2, 14, 21, 6, 96, 21, 5, 79, 42, 180, 0, 17]
abbrev dktX5_place_6 : List UInt8 := dkwX5_place_6 ++ dktX5_place_7
def dkwX5_place_5 : List UInt8 := [21, 6, 96, 28, 79, 42, 180, 0, 17, 17, 1, 246, 21, 6, 96, 29, 79, 42, 180, 0, 17, 17, 2, 2]
abbrev dktX5_place_5 : List UInt8 := dkwX5_place_5 ++ dktX5_place_6
def dkwX5_place_4 : List UInt8 := [17, 1, 222, 21, 6, 96, 27, 153, 0, 7, 4, 167, 0, 4, 3, 79, 42, 180, 0, 17, 17, 1, 234]
abbrev dktX5_place_4 : List UInt8 := dkwX5_place_4 ++ dktX5_place_5
def dkwX5_place_3 : List UInt8 := [154, 0, 10, 42, 16, 253, 182, 0, 89, 172, 42, 180, 0, 17, 17, 1, 221, 46, 54, 6, 42, 180, 0, 17]
abbrev dktX5_place_3 : List UInt8 := dkwX5_place_3 ++ dktX5_place_4
def dkwX5_place_2 : List UInt8 := [153, 0, 27, 21, 4, 133, 9, 28, 133, 184, 0, 152, 153, 0, 15, 21, 5, 133, 9, 29, 133, 184, 0, 152]
abbrev dktX5_place_2 : List UInt8 := dkwX5_place_2 ++ dktX5_place_3
def dkwX5_place_1 : List UInt8 := [172, 28, 133, 9, 20, 1, 58, 184, 0, 152, 153, 0, 39, 29, 133, 9, 20, 1, 58, 184, 0, 152]
abbrev dktX5_place_1 : List UInt8 := dkwX5_place_1 ++ dktX5_place_2
def dkwX5_place_0 : List UInt8 := [42, 3, 181, 0, 1, 42, 180, 0, 17, 17, 1, 221, 46, 16, 12, 160, 0, 10, 42, 16, 251, 182, 0, 89]
abbrev dktX5_place_0 : List UInt8 := dkwX5_place_0 ++ dktX5_place_1
theorem dksX5_place_0 : cX5_place.data.toList.drop 0 = dktX5_place_0 := by decide +kernel
theorem dksX5_place_1 : cX5_place.data.toList.drop 24 = dktX5_place_1 := dk_seg dksX5_place_0 24 rfl rfl
theorem dksX5_place_2 : cX5_place.data.toList.drop 46 = dktX5_place_2 := dk_seg dksX5_place_1 22 rfl rfl
theorem dksX5_place_3 : cX5_place.data.toList.drop 70 = dktX5_place_3 := dk_seg dksX5_place_2 24 rfl rfl
theorem dksX5_place_4 : cX5_place.data.toList.drop 94 = dktX5_place_4 := dk_seg dksX5_place_3 24 rfl rfl
theorem dksX5_place_5 : cX5_place.data.toList.drop 117 = dktX5_place_5 := dk_seg dksX5_place_4 23 rfl rfl
theorem dksX5_place_6 : cX5_place.data.toList.drop 141 = dktX5_place_6 := dk_seg dksX5_place_5 24 rfl rfl
theorem dksX5_place_7 : cX5_place.data.toList.drop 164 = dktX5_place_7 := dk_seg dksX5_place_6 23 rfl rfl
theorem dX5_place_0 : decode cX5_place 0 = .ok (.aload_n 0, 1) := dk_42 (dk_at dksX5_place_0 0 rfl rfl)
theorem dX5_place_1 : decode cX5_place 1 = .ok (.iconst 0, 1) := dk_3 (dk_at dksX5_place_0 1 rfl rfl)
theorem dX5_place_2 : decode cX5_place 2 = .ok (.putfield 1, 3) := dk_181 0 1 (dk_at dksX5_place_0 2 rfl rfl)
theorem dX5_place_5 : decode cX5_place 5 = .ok (.aload_n 0, 1) := dk_42 (dk_at dksX5_place_0 5 rfl rfl)
theorem dX5_place_6 : decode cX5_place 6 = .ok (.getfield 17, 3) := dk_180 0 17 (dk_at dksX5_place_0 6 rfl rfl)
theorem dX5_place_9 : decode cX5_place 9 = .ok (.sipush 477, 3) := dk_17 1 221 (dk_at dksX5_place_0 9 rfl rfl)
theorem dX5_place_12 : decode cX5_place 12 = .ok (.iaload, 1) := dk_46 (dk_at dksX5_place_0 12 rfl rfl)
theorem dX5_place_13 : decode cX5_place 13 = .ok (.bipush 12, 2) := dk_16 12 (dk_at dksX5_place_0 13 rfl rfl)
theorem dX5_place_15 : decode cX5_place 15 = .ok (.if_icmp .ne 10, 3) := dk_160 0 10 (dk_at dksX5_place_0 15 rfl rfl)
theorem dX5_place_18 : decode cX5_place 18 = .ok (.aload_n 0, 1) := dk_42 (dk_at dksX5_place_0 18 rfl rfl)
theorem dX5_place_19 : decode cX5_place 19 = .ok (.bipush (-5), 2) := dk_16 251 (dk_at dksX5_place_0 19 rfl rfl)
theorem dX5_place_21 : decode cX5_place 21 = .ok (.invokevirtual 89, 3) := dk_182 0 89 (dk_at dksX5_place_0 21 rfl rfl)
theorem dX5_place_24 : decode cX5_place 24 = .ok (.ireturn, 1) := dk_172 (dk_at dksX5_place_1 0 rfl rfl)
theorem dX5_place_25 : decode cX5_place 25 = .ok (.iload_n 2, 1) := dk_28 (dk_at dksX5_place_1 1 rfl rfl)
theorem dX5_place_26 : decode cX5_place 26 = .ok (.i2l, 1) := dk_133 (dk_at dksX5_place_1 2 rfl rfl)
theorem dX5_place_27 : decode cX5_place 27 = .ok (.lconst 0, 1) := dk_9 (dk_at dksX5_place_1 3 rfl rfl)
theorem dX5_place_28 : decode cX5_place 28 = .ok (.ldc2_w 314, 3) := dk_20 1 58 (dk_at dksX5_place_1 4 rfl rfl)
theorem dX5_place_31 : decode cX5_place 31 = .ok (.invokestatic 152, 3) := dk_184 0 152 (dk_at dksX5_place_1 7 rfl rfl)
theorem dX5_place_34 : decode cX5_place 34 = .ok (.ifCond .eq 39, 3) := dk_153 0 39 (dk_at dksX5_place_1 10 rfl rfl)
theorem dX5_place_37 : decode cX5_place 37 = .ok (.iload_n 3, 1) := dk_29 (dk_at dksX5_place_1 13 rfl rfl)
theorem dX5_place_38 : decode cX5_place 38 = .ok (.i2l, 1) := dk_133 (dk_at dksX5_place_1 14 rfl rfl)
theorem dX5_place_39 : decode cX5_place 39 = .ok (.lconst 0, 1) := dk_9 (dk_at dksX5_place_1 15 rfl rfl)
theorem dX5_place_40 : decode cX5_place 40 = .ok (.ldc2_w 314, 3) := dk_20 1 58 (dk_at dksX5_place_1 16 rfl rfl)
theorem dX5_place_43 : decode cX5_place 43 = .ok (.invokestatic 152, 3) := dk_184 0 152 (dk_at dksX5_place_1 19 rfl rfl)
theorem dX5_place_46 : decode cX5_place 46 = .ok (.ifCond .eq 27, 3) := dk_153 0 27 (dk_at dksX5_place_2 0 rfl rfl)
theorem dX5_place_49 : decode cX5_place 49 = .ok (.iload 4, 2) := dk_21 4 (dk_at dksX5_place_2 3 rfl rfl)
theorem dX5_place_51 : decode cX5_place 51 = .ok (.i2l, 1) := dk_133 (dk_at dksX5_place_2 5 rfl rfl)
theorem dX5_place_52 : decode cX5_place 52 = .ok (.lconst 0, 1) := dk_9 (dk_at dksX5_place_2 6 rfl rfl)
theorem dX5_place_53 : decode cX5_place 53 = .ok (.iload_n 2, 1) := dk_28 (dk_at dksX5_place_2 7 rfl rfl)
theorem dX5_place_54 : decode cX5_place 54 = .ok (.i2l, 1) := dk_133 (dk_at dksX5_place_2 8 rfl rfl)
theorem dX5_place_55 : decode cX5_place 55 = .ok (.invokestatic 152, 3) := dk_184 0 152 (dk_at dksX5_place_2 9 rfl rfl)
theorem dX5_place_58 : decode cX5_place 58 = .ok (.ifCond .eq 15, 3) := dk_153 0 15 (dk_at dksX5_place_2 12 rfl rfl)
theorem dX5_place_61 : decode cX5_place 61 = .ok (.iload 5, 2) := dk_21 5 (dk_at dksX5_place_2 15 rfl rfl)
theorem dX5_place_63 : decode cX5_place 63 = .ok (.i2l, 1) := dk_133 (dk_at dksX5_place_2 17 rfl rfl)
theorem dX5_place_64 : decode cX5_place 64 = .ok (.lconst 0, 1) := dk_9 (dk_at dksX5_place_2 18 rfl rfl)
theorem dX5_place_65 : decode cX5_place 65 = .ok (.iload_n 3, 1) := dk_29 (dk_at dksX5_place_2 19 rfl rfl)
theorem dX5_place_66 : decode cX5_place 66 = .ok (.i2l, 1) := dk_133 (dk_at dksX5_place_2 20 rfl rfl)
theorem dX5_place_67 : decode cX5_place 67 = .ok (.invokestatic 152, 3) := dk_184 0 152 (dk_at dksX5_place_2 21 rfl rfl)
theorem dX5_place_70 : decode cX5_place 70 = .ok (.ifCond .ne 10, 3) := dk_154 0 10 (dk_at dksX5_place_3 0 rfl rfl)
theorem dX5_place_73 : decode cX5_place 73 = .ok (.aload_n 0, 1) := dk_42 (dk_at dksX5_place_3 3 rfl rfl)
theorem dX5_place_74 : decode cX5_place 74 = .ok (.bipush (-3), 2) := dk_16 253 (dk_at dksX5_place_3 4 rfl rfl)
theorem dX5_place_76 : decode cX5_place 76 = .ok (.invokevirtual 89, 3) := dk_182 0 89 (dk_at dksX5_place_3 6 rfl rfl)
theorem dX5_place_79 : decode cX5_place 79 = .ok (.ireturn, 1) := dk_172 (dk_at dksX5_place_3 9 rfl rfl)
theorem dX5_place_80 : decode cX5_place 80 = .ok (.aload_n 0, 1) := dk_42 (dk_at dksX5_place_3 10 rfl rfl)
theorem dX5_place_81 : decode cX5_place 81 = .ok (.getfield 17, 3) := dk_180 0 17 (dk_at dksX5_place_3 11 rfl rfl)
theorem dX5_place_84 : decode cX5_place 84 = .ok (.sipush 477, 3) := dk_17 1 221 (dk_at dksX5_place_3 14 rfl rfl)
theorem dX5_place_87 : decode cX5_place 87 = .ok (.iaload, 1) := dk_46 (dk_at dksX5_place_3 17 rfl rfl)
theorem dX5_place_88 : decode cX5_place 88 = .ok (.istore 6, 2) := dk_54 6 (dk_at dksX5_place_3 18 rfl rfl)
theorem dX5_place_90 : decode cX5_place 90 = .ok (.aload_n 0, 1) := dk_42 (dk_at dksX5_place_3 20 rfl rfl)
theorem dX5_place_91 : decode cX5_place 91 = .ok (.getfield 17, 3) := dk_180 0 17 (dk_at dksX5_place_3 21 rfl rfl)
theorem dX5_place_94 : decode cX5_place 94 = .ok (.sipush 478, 3) := dk_17 1 222 (dk_at dksX5_place_4 0 rfl rfl)
theorem dX5_place_97 : decode cX5_place 97 = .ok (.iload 6, 2) := dk_21 6 (dk_at dksX5_place_4 3 rfl rfl)
theorem dX5_place_99 : decode cX5_place 99 = .ok (.iadd, 1) := dk_96 (dk_at dksX5_place_4 5 rfl rfl)
theorem dX5_place_100 : decode cX5_place 100 = .ok (.iload_n 1, 1) := dk_27 (dk_at dksX5_place_4 6 rfl rfl)
theorem dX5_place_101 : decode cX5_place 101 = .ok (.ifCond .eq 7, 3) := dk_153 0 7 (dk_at dksX5_place_4 7 rfl rfl)
theorem dX5_place_104 : decode cX5_place 104 = .ok (.iconst 1, 1) := dk_4 (dk_at dksX5_place_4 10 rfl rfl)
theorem dX5_place_105 : decode cX5_place 105 = .ok (.goto 4, 3) := dk_167 0 4 (dk_at dksX5_place_4 11 rfl rfl)
theorem dX5_place_108 : decode cX5_place 108 = .ok (.iconst 0, 1) := dk_3 (dk_at dksX5_place_4 14 rfl rfl)
theorem dX5_place_109 : decode cX5_place 109 = .ok (.iastore, 1) := dk_79 (dk_at dksX5_place_4 15 rfl rfl)
theorem dX5_place_110 : decode cX5_place 110 = .ok (.aload_n 0, 1) := dk_42 (dk_at dksX5_place_4 16 rfl rfl)
theorem dX5_place_111 : decode cX5_place 111 = .ok (.getfield 17, 3) := dk_180 0 17 (dk_at dksX5_place_4 17 rfl rfl)
theorem dX5_place_114 : decode cX5_place 114 = .ok (.sipush 490, 3) := dk_17 1 234 (dk_at dksX5_place_4 20 rfl rfl)
theorem dX5_place_117 : decode cX5_place 117 = .ok (.iload 6, 2) := dk_21 6 (dk_at dksX5_place_5 0 rfl rfl)
theorem dX5_place_119 : decode cX5_place 119 = .ok (.iadd, 1) := dk_96 (dk_at dksX5_place_5 2 rfl rfl)
theorem dX5_place_120 : decode cX5_place 120 = .ok (.iload_n 2, 1) := dk_28 (dk_at dksX5_place_5 3 rfl rfl)
theorem dX5_place_121 : decode cX5_place 121 = .ok (.iastore, 1) := dk_79 (dk_at dksX5_place_5 4 rfl rfl)
theorem dX5_place_122 : decode cX5_place 122 = .ok (.aload_n 0, 1) := dk_42 (dk_at dksX5_place_5 5 rfl rfl)
theorem dX5_place_123 : decode cX5_place 123 = .ok (.getfield 17, 3) := dk_180 0 17 (dk_at dksX5_place_5 6 rfl rfl)
theorem dX5_place_126 : decode cX5_place 126 = .ok (.sipush 502, 3) := dk_17 1 246 (dk_at dksX5_place_5 9 rfl rfl)
theorem dX5_place_129 : decode cX5_place 129 = .ok (.iload 6, 2) := dk_21 6 (dk_at dksX5_place_5 12 rfl rfl)
theorem dX5_place_131 : decode cX5_place 131 = .ok (.iadd, 1) := dk_96 (dk_at dksX5_place_5 14 rfl rfl)
theorem dX5_place_132 : decode cX5_place 132 = .ok (.iload_n 3, 1) := dk_29 (dk_at dksX5_place_5 15 rfl rfl)
theorem dX5_place_133 : decode cX5_place 133 = .ok (.iastore, 1) := dk_79 (dk_at dksX5_place_5 16 rfl rfl)
theorem dX5_place_134 : decode cX5_place 134 = .ok (.aload_n 0, 1) := dk_42 (dk_at dksX5_place_5 17 rfl rfl)
theorem dX5_place_135 : decode cX5_place 135 = .ok (.getfield 17, 3) := dk_180 0 17 (dk_at dksX5_place_5 18 rfl rfl)
theorem dX5_place_138 : decode cX5_place 138 = .ok (.sipush 514, 3) := dk_17 2 2 (dk_at dksX5_place_5 21 rfl rfl)
theorem dX5_place_141 : decode cX5_place 141 = .ok (.iload 6, 2) := dk_21 6 (dk_at dksX5_place_6 0 rfl rfl)
theorem dX5_place_143 : decode cX5_place 143 = .ok (.iadd, 1) := dk_96 (dk_at dksX5_place_6 2 rfl rfl)
theorem dX5_place_144 : decode cX5_place 144 = .ok (.iload 4, 2) := dk_21 4 (dk_at dksX5_place_6 3 rfl rfl)
theorem dX5_place_146 : decode cX5_place 146 = .ok (.iastore, 1) := dk_79 (dk_at dksX5_place_6 5 rfl rfl)
theorem dX5_place_147 : decode cX5_place 147 = .ok (.aload_n 0, 1) := dk_42 (dk_at dksX5_place_6 6 rfl rfl)
theorem dX5_place_148 : decode cX5_place 148 = .ok (.getfield 17, 3) := dk_180 0 17 (dk_at dksX5_place_6 7 rfl rfl)
theorem dX5_place_151 : decode cX5_place 151 = .ok (.sipush 526, 3) := dk_17 2 14 (dk_at dksX5_place_6 10 rfl rfl)
theorem dX5_place_154 : decode cX5_place 154 = .ok (.iload 6, 2) := dk_21 6 (dk_at dksX5_place_6 13 rfl rfl)
theorem dX5_place_156 : decode cX5_place 156 = .ok (.iadd, 1) := dk_96 (dk_at dksX5_place_6 15 rfl rfl)
theorem dX5_place_157 : decode cX5_place 157 = .ok (.iload 5, 2) := dk_21 5 (dk_at dksX5_place_6 16 rfl rfl)
theorem dX5_place_159 : decode cX5_place 159 = .ok (.iastore, 1) := dk_79 (dk_at dksX5_place_6 18 rfl rfl)
theorem dX5_place_160 : decode cX5_place 160 = .ok (.aload_n 0, 1) := dk_42 (dk_at dksX5_place_6 19 rfl rfl)
theorem dX5_place_161 : decode cX5_place 161 = .ok (.getfield 17, 3) := dk_180 0 17 (dk_at dksX5_place_6 20 rfl rfl)
theorem dX5_place_164 : decode cX5_place 164 = .ok (.sipush 538, 3) := dk_17 2 26 (dk_at dksX5_place_7 0 rfl rfl)
theorem dX5_place_167 : decode cX5_place 167 = .ok (.iload 6, 2) := dk_21 6 (dk_at dksX5_place_7 3 rfl rfl)
theorem dX5_place_169 : decode cX5_place 169 = .ok (.iadd, 1) := dk_96 (dk_at dksX5_place_7 5 rfl rfl)
theorem dX5_place_170 : decode cX5_place 170 = .ok (.iconst 0, 1) := dk_3 (dk_at dksX5_place_7 6 rfl rfl)
theorem dX5_place_171 : decode cX5_place 171 = .ok (.iastore, 1) := dk_79 (dk_at dksX5_place_7 7 rfl rfl)
theorem dX5_place_172 : decode cX5_place 172 = .ok (.aload_n 0, 1) := dk_42 (dk_at dksX5_place_7 8 rfl rfl)
theorem dX5_place_173 : decode cX5_place 173 = .ok (.getfield 17, 3) := dk_180 0 17 (dk_at dksX5_place_7 9 rfl rfl)
theorem dX5_place_176 : decode cX5_place 176 = .ok (.sipush 477, 3) := dk_17 1 221 (dk_at dksX5_place_7 12 rfl rfl)
theorem dX5_place_179 : decode cX5_place 179 = .ok (.dup2, 1) := dk_92 (dk_at dksX5_place_7 15 rfl rfl)
theorem dX5_place_180 : decode cX5_place 180 = .ok (.iaload, 1) := dk_46 (dk_at dksX5_place_7 16 rfl rfl)
theorem dX5_place_181 : decode cX5_place 181 = .ok (.iconst 1, 1) := dk_4 (dk_at dksX5_place_7 17 rfl rfl)
theorem dX5_place_182 : decode cX5_place 182 = .ok (.iadd, 1) := dk_96 (dk_at dksX5_place_7 18 rfl rfl)
theorem dX5_place_183 : decode cX5_place 183 = .ok (.iastore, 1) := dk_79 (dk_at dksX5_place_7 19 rfl rfl)
theorem dX5_place_184 : decode cX5_place 184 = .ok (.iload 6, 2) := dk_21 6 (dk_at dksX5_place_7 20 rfl rfl)
theorem dX5_place_186 : decode cX5_place 186 = .ok (.ireturn, 1) := dk_172 (dk_at dksX5_place_7 22 rfl rfl)
abbrev cX5_behind : ByteArray := prog_21_method_71_code
def yX5_behind : MethodName := ⟨RX5, "behind", "(II)I"⟩
def dkwX5_behind_2 : List UInt8 := [96, 46, 62, 42, 180, 0, 17, 17, 2, 26, 27, 96, 28, 79, 29, 172]
abbrev dktX5_behind_2 : List UInt8 := dkwX5_behind_2 ++ []
def dkwX5_behind_1 : List UInt8 := [20, 1, 63, 184, 0, 152, 154, 0, 10, 42, 16, 253, 182, 0, 89, 172, 42, 180, 0, 17, 17, 2, 26, 27]
abbrev dktX5_behind_1 : List UInt8 := dkwX5_behind_1 ++ dktX5_behind_2
def dkwX5_behind_0 : List UInt8 := [42, 3, 181, 0, 1, 42, 27, 182, 1, 60, 154, 0, 10, 42, 16, 254, 182, 0, 89, 172, 28, 133, 9]
abbrev dktX5_behind_0 : List UInt8 := dkwX5_behind_0 ++ dktX5_behind_1
theorem dksX5_behind_0 : cX5_behind.data.toList.drop 0 = dktX5_behind_0 := by decide +kernel
theorem dksX5_behind_1 : cX5_behind.data.toList.drop 23 = dktX5_behind_1 := dk_seg dksX5_behind_0 23 rfl rfl
theorem dksX5_behind_2 : cX5_behind.data.toList.drop 47 = dktX5_behind_2 := dk_seg dksX5_behind_1 24 rfl rfl
theorem dX5_behind_0 : decode cX5_behind 0 = .ok (.aload_n 0, 1) := dk_42 (dk_at dksX5_behind_0 0 rfl rfl)
theorem dX5_behind_1 : decode cX5_behind 1 = .ok (.iconst 0, 1) := dk_3 (dk_at dksX5_behind_0 1 rfl rfl)
theorem dX5_behind_2 : decode cX5_behind 2 = .ok (.putfield 1, 3) := dk_181 0 1 (dk_at dksX5_behind_0 2 rfl rfl)
theorem dX5_behind_5 : decode cX5_behind 5 = .ok (.aload_n 0, 1) := dk_42 (dk_at dksX5_behind_0 5 rfl rfl)
theorem dX5_behind_6 : decode cX5_behind 6 = .ok (.iload_n 1, 1) := dk_27 (dk_at dksX5_behind_0 6 rfl rfl)
theorem dX5_behind_7 : decode cX5_behind 7 = .ok (.invokevirtual 316, 3) := dk_182 1 60 (dk_at dksX5_behind_0 7 rfl rfl)
theorem dX5_behind_10 : decode cX5_behind 10 = .ok (.ifCond .ne 10, 3) := dk_154 0 10 (dk_at dksX5_behind_0 10 rfl rfl)
theorem dX5_behind_13 : decode cX5_behind 13 = .ok (.aload_n 0, 1) := dk_42 (dk_at dksX5_behind_0 13 rfl rfl)
theorem dX5_behind_14 : decode cX5_behind 14 = .ok (.bipush (-2), 2) := dk_16 254 (dk_at dksX5_behind_0 14 rfl rfl)
theorem dX5_behind_16 : decode cX5_behind 16 = .ok (.invokevirtual 89, 3) := dk_182 0 89 (dk_at dksX5_behind_0 16 rfl rfl)
theorem dX5_behind_19 : decode cX5_behind 19 = .ok (.ireturn, 1) := dk_172 (dk_at dksX5_behind_0 19 rfl rfl)
theorem dX5_behind_20 : decode cX5_behind 20 = .ok (.iload_n 2, 1) := dk_28 (dk_at dksX5_behind_0 20 rfl rfl)
theorem dX5_behind_21 : decode cX5_behind 21 = .ok (.i2l, 1) := dk_133 (dk_at dksX5_behind_0 21 rfl rfl)
theorem dX5_behind_22 : decode cX5_behind 22 = .ok (.lconst 0, 1) := dk_9 (dk_at dksX5_behind_0 22 rfl rfl)
theorem dX5_behind_23 : decode cX5_behind 23 = .ok (.ldc2_w 319, 3) := dk_20 1 63 (dk_at dksX5_behind_1 0 rfl rfl)
theorem dX5_behind_26 : decode cX5_behind 26 = .ok (.invokestatic 152, 3) := dk_184 0 152 (dk_at dksX5_behind_1 3 rfl rfl)
theorem dX5_behind_29 : decode cX5_behind 29 = .ok (.ifCond .ne 10, 3) := dk_154 0 10 (dk_at dksX5_behind_1 6 rfl rfl)
theorem dX5_behind_32 : decode cX5_behind 32 = .ok (.aload_n 0, 1) := dk_42 (dk_at dksX5_behind_1 9 rfl rfl)
theorem dX5_behind_33 : decode cX5_behind 33 = .ok (.bipush (-3), 2) := dk_16 253 (dk_at dksX5_behind_1 10 rfl rfl)
theorem dX5_behind_35 : decode cX5_behind 35 = .ok (.invokevirtual 89, 3) := dk_182 0 89 (dk_at dksX5_behind_1 12 rfl rfl)
theorem dX5_behind_38 : decode cX5_behind 38 = .ok (.ireturn, 1) := dk_172 (dk_at dksX5_behind_1 15 rfl rfl)
theorem dX5_behind_39 : decode cX5_behind 39 = .ok (.aload_n 0, 1) := dk_42 (dk_at dksX5_behind_1 16 rfl rfl)
theorem dX5_behind_40 : decode cX5_behind 40 = .ok (.getfield 17, 3) := dk_180 0 17 (dk_at dksX5_behind_1 17 rfl rfl)
theorem dX5_behind_43 : decode cX5_behind 43 = .ok (.sipush 538, 3) := dk_17 2 26 (dk_at dksX5_behind_1 20 rfl rfl)
theorem dX5_behind_46 : decode cX5_behind 46 = .ok (.iload_n 1, 1) := dk_27 (dk_at dksX5_behind_1 23 rfl rfl)
theorem dX5_behind_47 : decode cX5_behind 47 = .ok (.iadd, 1) := dk_96 (dk_at dksX5_behind_2 0 rfl rfl)
theorem dX5_behind_48 : decode cX5_behind 48 = .ok (.iaload, 1) := dk_46 (dk_at dksX5_behind_2 1 rfl rfl)
theorem dX5_behind_49 : decode cX5_behind 49 = .ok (.istore_n 3, 1) := dk_62 (dk_at dksX5_behind_2 2 rfl rfl)
theorem dX5_behind_50 : decode cX5_behind 50 = .ok (.aload_n 0, 1) := dk_42 (dk_at dksX5_behind_2 3 rfl rfl)
theorem dX5_behind_51 : decode cX5_behind 51 = .ok (.getfield 17, 3) := dk_180 0 17 (dk_at dksX5_behind_2 4 rfl rfl)
theorem dX5_behind_54 : decode cX5_behind 54 = .ok (.sipush 538, 3) := dk_17 2 26 (dk_at dksX5_behind_2 7 rfl rfl)
theorem dX5_behind_57 : decode cX5_behind 57 = .ok (.iload_n 1, 1) := dk_27 (dk_at dksX5_behind_2 10 rfl rfl)
theorem dX5_behind_58 : decode cX5_behind 58 = .ok (.iadd, 1) := dk_96 (dk_at dksX5_behind_2 11 rfl rfl)
theorem dX5_behind_59 : decode cX5_behind 59 = .ok (.iload_n 2, 1) := dk_28 (dk_at dksX5_behind_2 12 rfl rfl)
theorem dX5_behind_60 : decode cX5_behind 60 = .ok (.iastore, 1) := dk_79 (dk_at dksX5_behind_2 13 rfl rfl)
theorem dX5_behind_61 : decode cX5_behind 61 = .ok (.iload_n 3, 1) := dk_29 (dk_at dksX5_behind_2 14 rfl rfl)
theorem dX5_behind_62 : decode cX5_behind 62 = .ok (.ireturn, 1) := dk_172 (dk_at dksX5_behind_2 15 rfl rfl)
abbrev cX5_isPlace : ByteArray := prog_21_method_70_code
def yX5_isPlace : MethodName := ⟨RX5, "isPlace", "(I)Z"⟩
def dkwX5_isPlace_0 : List UInt8 := [27, 133, 9, 42, 180, 0, 17, 17, 1, 221, 46, 4, 100, 133, 184, 0, 152, 172]
abbrev dktX5_isPlace_0 : List UInt8 := dkwX5_isPlace_0 ++ []
theorem dksX5_isPlace_0 : cX5_isPlace.data.toList.drop 0 = dktX5_isPlace_0 := by decide +kernel
theorem dX5_isPlace_0 : decode cX5_isPlace 0 = .ok (.iload_n 1, 1) := dk_27 (dk_at dksX5_isPlace_0 0 rfl rfl)
theorem dX5_isPlace_1 : decode cX5_isPlace 1 = .ok (.i2l, 1) := dk_133 (dk_at dksX5_isPlace_0 1 rfl rfl)
theorem dX5_isPlace_2 : decode cX5_isPlace 2 = .ok (.lconst 0, 1) := dk_9 (dk_at dksX5_isPlace_0 2 rfl rfl)
theorem dX5_isPlace_3 : decode cX5_isPlace 3 = .ok (.aload_n 0, 1) := dk_42 (dk_at dksX5_isPlace_0 3 rfl rfl)
theorem dX5_isPlace_4 : decode cX5_isPlace 4 = .ok (.getfield 17, 3) := dk_180 0 17 (dk_at dksX5_isPlace_0 4 rfl rfl)
theorem dX5_isPlace_7 : decode cX5_isPlace 7 = .ok (.sipush 477, 3) := dk_17 1 221 (dk_at dksX5_isPlace_0 7 rfl rfl)
theorem dX5_isPlace_10 : decode cX5_isPlace 10 = .ok (.iaload, 1) := dk_46 (dk_at dksX5_isPlace_0 10 rfl rfl)
theorem dX5_isPlace_11 : decode cX5_isPlace 11 = .ok (.iconst 1, 1) := dk_4 (dk_at dksX5_isPlace_0 11 rfl rfl)
theorem dX5_isPlace_12 : decode cX5_isPlace 12 = .ok (.isub, 1) := dk_100 (dk_at dksX5_isPlace_0 12 rfl rfl)
theorem dX5_isPlace_13 : decode cX5_isPlace 13 = .ok (.i2l, 1) := dk_133 (dk_at dksX5_isPlace_0 13 rfl rfl)
theorem dX5_isPlace_14 : decode cX5_isPlace 14 = .ok (.invokestatic 152, 3) := dk_184 0 152 (dk_at dksX5_isPlace_0 14 rfl rfl)
theorem dX5_isPlace_17 : decode cX5_isPlace 17 = .ok (.ireturn, 1) := dk_172 (dk_at dksX5_isPlace_0 17 rfl rfl)
abbrev cX5_at : ByteArray := prog_21_method_72_code
def yX5_at : MethodName := ⟨RX5, "at", "(II)I"⟩
def dkwX5_at_2 : List UInt8 := [46, 172]
abbrev dktX5_at_2 : List UInt8 := dkwX5_at_2 ++ []
def dkwX5_at_1 : List UInt8 := [154, 0, 10, 42, 16, 254, 182, 0, 89, 172, 42, 180, 0, 17, 17, 1, 222, 16, 12, 28, 104, 96, 27, 96]
abbrev dktX5_at_1 : List UInt8 := dkwX5_at_1 ++ dktX5_at_2
def dkwX5_at_0 : List UInt8 := [42, 3, 181, 0, 1, 42, 27, 182, 1, 60, 153, 0, 15, 28, 133, 9, 20, 0, 172, 184, 0, 152]
abbrev dktX5_at_0 : List UInt8 := dkwX5_at_0 ++ dktX5_at_1
theorem dksX5_at_0 : cX5_at.data.toList.drop 0 = dktX5_at_0 := by decide +kernel
theorem dksX5_at_1 : cX5_at.data.toList.drop 22 = dktX5_at_1 := dk_seg dksX5_at_0 22 rfl rfl
theorem dksX5_at_2 : cX5_at.data.toList.drop 46 = dktX5_at_2 := dk_seg dksX5_at_1 24 rfl rfl
theorem dX5_at_0 : decode cX5_at 0 = .ok (.aload_n 0, 1) := dk_42 (dk_at dksX5_at_0 0 rfl rfl)
theorem dX5_at_1 : decode cX5_at 1 = .ok (.iconst 0, 1) := dk_3 (dk_at dksX5_at_0 1 rfl rfl)
theorem dX5_at_2 : decode cX5_at 2 = .ok (.putfield 1, 3) := dk_181 0 1 (dk_at dksX5_at_0 2 rfl rfl)
theorem dX5_at_5 : decode cX5_at 5 = .ok (.aload_n 0, 1) := dk_42 (dk_at dksX5_at_0 5 rfl rfl)
theorem dX5_at_6 : decode cX5_at 6 = .ok (.iload_n 1, 1) := dk_27 (dk_at dksX5_at_0 6 rfl rfl)
theorem dX5_at_7 : decode cX5_at 7 = .ok (.invokevirtual 316, 3) := dk_182 1 60 (dk_at dksX5_at_0 7 rfl rfl)
theorem dX5_at_10 : decode cX5_at 10 = .ok (.ifCond .eq 15, 3) := dk_153 0 15 (dk_at dksX5_at_0 10 rfl rfl)
theorem dX5_at_13 : decode cX5_at 13 = .ok (.iload_n 2, 1) := dk_28 (dk_at dksX5_at_0 13 rfl rfl)
theorem dX5_at_14 : decode cX5_at 14 = .ok (.i2l, 1) := dk_133 (dk_at dksX5_at_0 14 rfl rfl)
theorem dX5_at_15 : decode cX5_at 15 = .ok (.lconst 0, 1) := dk_9 (dk_at dksX5_at_0 15 rfl rfl)
theorem dX5_at_16 : decode cX5_at 16 = .ok (.ldc2_w 172, 3) := dk_20 0 172 (dk_at dksX5_at_0 16 rfl rfl)
theorem dX5_at_19 : decode cX5_at 19 = .ok (.invokestatic 152, 3) := dk_184 0 152 (dk_at dksX5_at_0 19 rfl rfl)
theorem dX5_at_22 : decode cX5_at 22 = .ok (.ifCond .ne 10, 3) := dk_154 0 10 (dk_at dksX5_at_1 0 rfl rfl)
theorem dX5_at_25 : decode cX5_at 25 = .ok (.aload_n 0, 1) := dk_42 (dk_at dksX5_at_1 3 rfl rfl)
theorem dX5_at_26 : decode cX5_at 26 = .ok (.bipush (-2), 2) := dk_16 254 (dk_at dksX5_at_1 4 rfl rfl)
theorem dX5_at_28 : decode cX5_at 28 = .ok (.invokevirtual 89, 3) := dk_182 0 89 (dk_at dksX5_at_1 6 rfl rfl)
theorem dX5_at_31 : decode cX5_at 31 = .ok (.ireturn, 1) := dk_172 (dk_at dksX5_at_1 9 rfl rfl)
theorem dX5_at_32 : decode cX5_at 32 = .ok (.aload_n 0, 1) := dk_42 (dk_at dksX5_at_1 10 rfl rfl)
theorem dX5_at_33 : decode cX5_at 33 = .ok (.getfield 17, 3) := dk_180 0 17 (dk_at dksX5_at_1 11 rfl rfl)
theorem dX5_at_36 : decode cX5_at 36 = .ok (.sipush 478, 3) := dk_17 1 222 (dk_at dksX5_at_1 14 rfl rfl)
theorem dX5_at_39 : decode cX5_at 39 = .ok (.bipush 12, 2) := dk_16 12 (dk_at dksX5_at_1 17 rfl rfl)
theorem dX5_at_41 : decode cX5_at 41 = .ok (.iload_n 2, 1) := dk_28 (dk_at dksX5_at_1 19 rfl rfl)
theorem dX5_at_42 : decode cX5_at 42 = .ok (.imul, 1) := dk_104 (dk_at dksX5_at_1 20 rfl rfl)
theorem dX5_at_43 : decode cX5_at 43 = .ok (.iadd, 1) := dk_96 (dk_at dksX5_at_1 21 rfl rfl)
theorem dX5_at_44 : decode cX5_at 44 = .ok (.iload_n 1, 1) := dk_27 (dk_at dksX5_at_1 22 rfl rfl)
theorem dX5_at_45 : decode cX5_at 45 = .ok (.iadd, 1) := dk_96 (dk_at dksX5_at_1 23 rfl rfl)
theorem dX5_at_46 : decode cX5_at 46 = .ok (.iaload, 1) := dk_46 (dk_at dksX5_at_2 0 rfl rfl)
theorem dX5_at_47 : decode cX5_at 47 = .ok (.ireturn, 1) := dk_172 (dk_at dksX5_at_2 1 rfl rfl)
abbrev cX5_rate : ByteArray := prog_21_method_75_code
def yX5_rate : MethodName := ⟨RX5, "rate", "(ZI)I"⟩
def dkwX5_rate_4 : List UInt8 := [22, 4, 167, 0, 5, 22, 6, 22, 8, 109, 136, 172]
abbrev dktX5_rate_4 : List UInt8 := dkwX5_rate_4 ++ []
def dkwX5_rate_3 : List UInt8 := [55, 6, 22, 6, 9, 148, 154, 0, 5, 28, 172, 22, 4, 22, 6, 184, 1, 54, 55, 8, 28, 154, 0, 8]
abbrev dktX5_rate_3 : List UInt8 := dkwX5_rate_3 ++ dktX5_rate_4
def dkwX5_rate_2 : List UInt8 := [182, 1, 65, 97, 55, 4, 42, 17, 1, 234, 29, 182, 1, 65, 42, 17, 1, 246, 29, 182, 1, 65, 97]
abbrev dktX5_rate_2 : List UInt8 := dkwX5_rate_2 ++ dktX5_rate_3
def dkwX5_rate_1 : List UInt8 := [153, 0, 7, 4, 167, 0, 4, 3, 62, 42, 17, 2, 2, 29, 182, 1, 65, 42, 17, 2, 14, 29]
abbrev dktX5_rate_1 : List UInt8 := dkwX5_rate_1 ++ dktX5_rate_2
def dkwX5_rate_0 : List UInt8 := [42, 3, 181, 0, 1, 28, 133, 9, 10, 184, 0, 152, 154, 0, 10, 42, 16, 254, 182, 0, 89, 172, 27]
abbrev dktX5_rate_0 : List UInt8 := dkwX5_rate_0 ++ dktX5_rate_1
theorem dksX5_rate_0 : cX5_rate.data.toList.drop 0 = dktX5_rate_0 := by decide +kernel
theorem dksX5_rate_1 : cX5_rate.data.toList.drop 23 = dktX5_rate_1 := dk_seg dksX5_rate_0 23 rfl rfl
theorem dksX5_rate_2 : cX5_rate.data.toList.drop 45 = dktX5_rate_2 := dk_seg dksX5_rate_1 22 rfl rfl
theorem dksX5_rate_3 : cX5_rate.data.toList.drop 68 = dktX5_rate_3 := dk_seg dksX5_rate_2 23 rfl rfl
theorem dksX5_rate_4 : cX5_rate.data.toList.drop 92 = dktX5_rate_4 := dk_seg dksX5_rate_3 24 rfl rfl
theorem dX5_rate_0 : decode cX5_rate 0 = .ok (.aload_n 0, 1) := dk_42 (dk_at dksX5_rate_0 0 rfl rfl)
theorem dX5_rate_1 : decode cX5_rate 1 = .ok (.iconst 0, 1) := dk_3 (dk_at dksX5_rate_0 1 rfl rfl)
theorem dX5_rate_2 : decode cX5_rate 2 = .ok (.putfield 1, 3) := dk_181 0 1 (dk_at dksX5_rate_0 2 rfl rfl)
theorem dX5_rate_5 : decode cX5_rate 5 = .ok (.iload_n 2, 1) := dk_28 (dk_at dksX5_rate_0 5 rfl rfl)
theorem dX5_rate_6 : decode cX5_rate 6 = .ok (.i2l, 1) := dk_133 (dk_at dksX5_rate_0 6 rfl rfl)
theorem dX5_rate_7 : decode cX5_rate 7 = .ok (.lconst 0, 1) := dk_9 (dk_at dksX5_rate_0 7 rfl rfl)
theorem dX5_rate_8 : decode cX5_rate 8 = .ok (.lconst 1, 1) := dk_10 (dk_at dksX5_rate_0 8 rfl rfl)
theorem dX5_rate_9 : decode cX5_rate 9 = .ok (.invokestatic 152, 3) := dk_184 0 152 (dk_at dksX5_rate_0 9 rfl rfl)
theorem dX5_rate_12 : decode cX5_rate 12 = .ok (.ifCond .ne 10, 3) := dk_154 0 10 (dk_at dksX5_rate_0 12 rfl rfl)
theorem dX5_rate_15 : decode cX5_rate 15 = .ok (.aload_n 0, 1) := dk_42 (dk_at dksX5_rate_0 15 rfl rfl)
theorem dX5_rate_16 : decode cX5_rate 16 = .ok (.bipush (-2), 2) := dk_16 254 (dk_at dksX5_rate_0 16 rfl rfl)
theorem dX5_rate_18 : decode cX5_rate 18 = .ok (.invokevirtual 89, 3) := dk_182 0 89 (dk_at dksX5_rate_0 18 rfl rfl)
theorem dX5_rate_21 : decode cX5_rate 21 = .ok (.ireturn, 1) := dk_172 (dk_at dksX5_rate_0 21 rfl rfl)
theorem dX5_rate_22 : decode cX5_rate 22 = .ok (.iload_n 1, 1) := dk_27 (dk_at dksX5_rate_0 22 rfl rfl)
theorem dX5_rate_23 : decode cX5_rate 23 = .ok (.ifCond .eq 7, 3) := dk_153 0 7 (dk_at dksX5_rate_1 0 rfl rfl)
theorem dX5_rate_26 : decode cX5_rate 26 = .ok (.iconst 1, 1) := dk_4 (dk_at dksX5_rate_1 3 rfl rfl)
theorem dX5_rate_27 : decode cX5_rate 27 = .ok (.goto 4, 3) := dk_167 0 4 (dk_at dksX5_rate_1 4 rfl rfl)
theorem dX5_rate_30 : decode cX5_rate 30 = .ok (.iconst 0, 1) := dk_3 (dk_at dksX5_rate_1 7 rfl rfl)
theorem dX5_rate_31 : decode cX5_rate 31 = .ok (.istore_n 3, 1) := dk_62 (dk_at dksX5_rate_1 8 rfl rfl)
theorem dX5_rate_32 : decode cX5_rate 32 = .ok (.aload_n 0, 1) := dk_42 (dk_at dksX5_rate_1 9 rfl rfl)
theorem dX5_rate_33 : decode cX5_rate 33 = .ok (.sipush 514, 3) := dk_17 2 2 (dk_at dksX5_rate_1 10 rfl rfl)
theorem dX5_rate_36 : decode cX5_rate 36 = .ok (.iload_n 3, 1) := dk_29 (dk_at dksX5_rate_1 13 rfl rfl)
theorem dX5_rate_37 : decode cX5_rate 37 = .ok (.invokevirtual 321, 3) := dk_182 1 65 (dk_at dksX5_rate_1 14 rfl rfl)
theorem dX5_rate_40 : decode cX5_rate 40 = .ok (.aload_n 0, 1) := dk_42 (dk_at dksX5_rate_1 17 rfl rfl)
theorem dX5_rate_41 : decode cX5_rate 41 = .ok (.sipush 526, 3) := dk_17 2 14 (dk_at dksX5_rate_1 18 rfl rfl)
theorem dX5_rate_44 : decode cX5_rate 44 = .ok (.iload_n 3, 1) := dk_29 (dk_at dksX5_rate_1 21 rfl rfl)
theorem dX5_rate_45 : decode cX5_rate 45 = .ok (.invokevirtual 321, 3) := dk_182 1 65 (dk_at dksX5_rate_2 0 rfl rfl)
theorem dX5_rate_48 : decode cX5_rate 48 = .ok (.ladd, 1) := dk_97 (dk_at dksX5_rate_2 3 rfl rfl)
theorem dX5_rate_49 : decode cX5_rate 49 = .ok (.lstore 4, 2) := dk_55 4 (dk_at dksX5_rate_2 4 rfl rfl)
theorem dX5_rate_51 : decode cX5_rate 51 = .ok (.aload_n 0, 1) := dk_42 (dk_at dksX5_rate_2 6 rfl rfl)
theorem dX5_rate_52 : decode cX5_rate 52 = .ok (.sipush 490, 3) := dk_17 1 234 (dk_at dksX5_rate_2 7 rfl rfl)
theorem dX5_rate_55 : decode cX5_rate 55 = .ok (.iload_n 3, 1) := dk_29 (dk_at dksX5_rate_2 10 rfl rfl)
theorem dX5_rate_56 : decode cX5_rate 56 = .ok (.invokevirtual 321, 3) := dk_182 1 65 (dk_at dksX5_rate_2 11 rfl rfl)
theorem dX5_rate_59 : decode cX5_rate 59 = .ok (.aload_n 0, 1) := dk_42 (dk_at dksX5_rate_2 14 rfl rfl)
theorem dX5_rate_60 : decode cX5_rate 60 = .ok (.sipush 502, 3) := dk_17 1 246 (dk_at dksX5_rate_2 15 rfl rfl)
theorem dX5_rate_63 : decode cX5_rate 63 = .ok (.iload_n 3, 1) := dk_29 (dk_at dksX5_rate_2 18 rfl rfl)
theorem dX5_rate_64 : decode cX5_rate 64 = .ok (.invokevirtual 321, 3) := dk_182 1 65 (dk_at dksX5_rate_2 19 rfl rfl)
theorem dX5_rate_67 : decode cX5_rate 67 = .ok (.ladd, 1) := dk_97 (dk_at dksX5_rate_2 22 rfl rfl)
theorem dX5_rate_68 : decode cX5_rate 68 = .ok (.lstore 6, 2) := dk_55 6 (dk_at dksX5_rate_3 0 rfl rfl)
theorem dX5_rate_70 : decode cX5_rate 70 = .ok (.lload 6, 2) := dk_22 6 (dk_at dksX5_rate_3 2 rfl rfl)
theorem dX5_rate_72 : decode cX5_rate 72 = .ok (.lconst 0, 1) := dk_9 (dk_at dksX5_rate_3 4 rfl rfl)
theorem dX5_rate_73 : decode cX5_rate 73 = .ok (.lcmp, 1) := dk_148 (dk_at dksX5_rate_3 5 rfl rfl)
theorem dX5_rate_74 : decode cX5_rate 74 = .ok (.ifCond .ne 5, 3) := dk_154 0 5 (dk_at dksX5_rate_3 6 rfl rfl)
theorem dX5_rate_77 : decode cX5_rate 77 = .ok (.iload_n 2, 1) := dk_28 (dk_at dksX5_rate_3 9 rfl rfl)
theorem dX5_rate_78 : decode cX5_rate 78 = .ok (.ireturn, 1) := dk_172 (dk_at dksX5_rate_3 10 rfl rfl)
theorem dX5_rate_79 : decode cX5_rate 79 = .ok (.lload 4, 2) := dk_22 4 (dk_at dksX5_rate_3 11 rfl rfl)
theorem dX5_rate_81 : decode cX5_rate 81 = .ok (.lload 6, 2) := dk_22 6 (dk_at dksX5_rate_3 13 rfl rfl)
theorem dX5_rate_83 : decode cX5_rate 83 = .ok (.invokestatic 310, 3) := dk_184 1 54 (dk_at dksX5_rate_3 15 rfl rfl)
theorem dX5_rate_86 : decode cX5_rate 86 = .ok (.lstore 8, 2) := dk_55 8 (dk_at dksX5_rate_3 18 rfl rfl)
theorem dX5_rate_88 : decode cX5_rate 88 = .ok (.iload_n 2, 1) := dk_28 (dk_at dksX5_rate_3 20 rfl rfl)
theorem dX5_rate_89 : decode cX5_rate 89 = .ok (.ifCond .ne 8, 3) := dk_154 0 8 (dk_at dksX5_rate_3 21 rfl rfl)
theorem dX5_rate_92 : decode cX5_rate 92 = .ok (.lload 4, 2) := dk_22 4 (dk_at dksX5_rate_4 0 rfl rfl)
theorem dX5_rate_94 : decode cX5_rate 94 = .ok (.goto 5, 3) := dk_167 0 5 (dk_at dksX5_rate_4 2 rfl rfl)
theorem dX5_rate_97 : decode cX5_rate 97 = .ok (.lload 6, 2) := dk_22 6 (dk_at dksX5_rate_4 5 rfl rfl)
theorem dX5_rate_99 : decode cX5_rate 99 = .ok (.lload 8, 2) := dk_22 8 (dk_at dksX5_rate_4 7 rfl rfl)
theorem dX5_rate_101 : decode cX5_rate 101 = .ok (.ldiv, 1) := dk_109 (dk_at dksX5_rate_4 9 rfl rfl)
theorem dX5_rate_102 : decode cX5_rate 102 = .ok (.l2i, 1) := dk_136 (dk_at dksX5_rate_4 10 rfl rfl)
theorem dX5_rate_103 : decode cX5_rate 103 = .ok (.ireturn, 1) := dk_172 (dk_at dksX5_rate_4 11 rfl rfl)
abbrev cX5_sumOf : ByteArray := prog_21_method_73_code
def yX5_sumOf : MethodName := ⟨RX5, "sumOf", "(II)J"⟩
def dkwX5_sumOf_2 : List UInt8 := [133, 167, 0, 4, 9, 97, 66, 132, 5, 1, 167, 255, 203, 33, 173]
abbrev dktX5_sumOf_2 : List UInt8 := dkwX5_sumOf_2 ++ []
def dkwX5_sumOf_1 : List UInt8 := [42, 180, 0, 17, 17, 1, 222, 21, 5, 96, 46, 28, 160, 0, 16, 42, 180, 0, 17, 27, 21, 5, 96, 46]
abbrev dktX5_sumOf_1 : List UInt8 := dkwX5_sumOf_1 ++ dktX5_sumOf_2
def dkwX5_sumOf_0 : List UInt8 := [9, 66, 3, 54, 5, 21, 5, 42, 180, 0, 17, 17, 1, 221, 46, 162, 0, 46, 33, 28, 5, 159, 0, 18]
abbrev dktX5_sumOf_0 : List UInt8 := dkwX5_sumOf_0 ++ dktX5_sumOf_1
theorem dksX5_sumOf_0 : cX5_sumOf.data.toList.drop 0 = dktX5_sumOf_0 := by decide +kernel
theorem dksX5_sumOf_1 : cX5_sumOf.data.toList.drop 24 = dktX5_sumOf_1 := dk_seg dksX5_sumOf_0 24 rfl rfl
theorem dksX5_sumOf_2 : cX5_sumOf.data.toList.drop 48 = dktX5_sumOf_2 := dk_seg dksX5_sumOf_1 24 rfl rfl
theorem dX5_sumOf_0 : decode cX5_sumOf 0 = .ok (.lconst 0, 1) := dk_9 (dk_at dksX5_sumOf_0 0 rfl rfl)
theorem dX5_sumOf_1 : decode cX5_sumOf 1 = .ok (.lstore_n 3, 1) := dk_66 (dk_at dksX5_sumOf_0 1 rfl rfl)
theorem dX5_sumOf_2 : decode cX5_sumOf 2 = .ok (.iconst 0, 1) := dk_3 (dk_at dksX5_sumOf_0 2 rfl rfl)
theorem dX5_sumOf_3 : decode cX5_sumOf 3 = .ok (.istore 5, 2) := dk_54 5 (dk_at dksX5_sumOf_0 3 rfl rfl)
theorem dX5_sumOf_5 : decode cX5_sumOf 5 = .ok (.iload 5, 2) := dk_21 5 (dk_at dksX5_sumOf_0 5 rfl rfl)
theorem dX5_sumOf_7 : decode cX5_sumOf 7 = .ok (.aload_n 0, 1) := dk_42 (dk_at dksX5_sumOf_0 7 rfl rfl)
theorem dX5_sumOf_8 : decode cX5_sumOf 8 = .ok (.getfield 17, 3) := dk_180 0 17 (dk_at dksX5_sumOf_0 8 rfl rfl)
theorem dX5_sumOf_11 : decode cX5_sumOf 11 = .ok (.sipush 477, 3) := dk_17 1 221 (dk_at dksX5_sumOf_0 11 rfl rfl)
theorem dX5_sumOf_14 : decode cX5_sumOf 14 = .ok (.iaload, 1) := dk_46 (dk_at dksX5_sumOf_0 14 rfl rfl)
theorem dX5_sumOf_15 : decode cX5_sumOf 15 = .ok (.if_icmp .ge 46, 3) := dk_162 0 46 (dk_at dksX5_sumOf_0 15 rfl rfl)
theorem dX5_sumOf_18 : decode cX5_sumOf 18 = .ok (.lload_n 3, 1) := dk_33 (dk_at dksX5_sumOf_0 18 rfl rfl)
theorem dX5_sumOf_19 : decode cX5_sumOf 19 = .ok (.iload_n 2, 1) := dk_28 (dk_at dksX5_sumOf_0 19 rfl rfl)
theorem dX5_sumOf_20 : decode cX5_sumOf 20 = .ok (.iconst 2, 1) := dk_5 (dk_at dksX5_sumOf_0 20 rfl rfl)
theorem dX5_sumOf_21 : decode cX5_sumOf 21 = .ok (.if_icmp .eq 18, 3) := dk_159 0 18 (dk_at dksX5_sumOf_0 21 rfl rfl)
theorem dX5_sumOf_24 : decode cX5_sumOf 24 = .ok (.aload_n 0, 1) := dk_42 (dk_at dksX5_sumOf_1 0 rfl rfl)
theorem dX5_sumOf_25 : decode cX5_sumOf 25 = .ok (.getfield 17, 3) := dk_180 0 17 (dk_at dksX5_sumOf_1 1 rfl rfl)
theorem dX5_sumOf_28 : decode cX5_sumOf 28 = .ok (.sipush 478, 3) := dk_17 1 222 (dk_at dksX5_sumOf_1 4 rfl rfl)
theorem dX5_sumOf_31 : decode cX5_sumOf 31 = .ok (.iload 5, 2) := dk_21 5 (dk_at dksX5_sumOf_1 7 rfl rfl)
theorem dX5_sumOf_33 : decode cX5_sumOf 33 = .ok (.iadd, 1) := dk_96 (dk_at dksX5_sumOf_1 9 rfl rfl)
theorem dX5_sumOf_34 : decode cX5_sumOf 34 = .ok (.iaload, 1) := dk_46 (dk_at dksX5_sumOf_1 10 rfl rfl)
theorem dX5_sumOf_35 : decode cX5_sumOf 35 = .ok (.iload_n 2, 1) := dk_28 (dk_at dksX5_sumOf_1 11 rfl rfl)
theorem dX5_sumOf_36 : decode cX5_sumOf 36 = .ok (.if_icmp .ne 16, 3) := dk_160 0 16 (dk_at dksX5_sumOf_1 12 rfl rfl)
theorem dX5_sumOf_39 : decode cX5_sumOf 39 = .ok (.aload_n 0, 1) := dk_42 (dk_at dksX5_sumOf_1 15 rfl rfl)
theorem dX5_sumOf_40 : decode cX5_sumOf 40 = .ok (.getfield 17, 3) := dk_180 0 17 (dk_at dksX5_sumOf_1 16 rfl rfl)
theorem dX5_sumOf_43 : decode cX5_sumOf 43 = .ok (.iload_n 1, 1) := dk_27 (dk_at dksX5_sumOf_1 19 rfl rfl)
theorem dX5_sumOf_44 : decode cX5_sumOf 44 = .ok (.iload 5, 2) := dk_21 5 (dk_at dksX5_sumOf_1 20 rfl rfl)
theorem dX5_sumOf_46 : decode cX5_sumOf 46 = .ok (.iadd, 1) := dk_96 (dk_at dksX5_sumOf_1 22 rfl rfl)
theorem dX5_sumOf_47 : decode cX5_sumOf 47 = .ok (.iaload, 1) := dk_46 (dk_at dksX5_sumOf_1 23 rfl rfl)
theorem dX5_sumOf_48 : decode cX5_sumOf 48 = .ok (.i2l, 1) := dk_133 (dk_at dksX5_sumOf_2 0 rfl rfl)
theorem dX5_sumOf_49 : decode cX5_sumOf 49 = .ok (.goto 4, 3) := dk_167 0 4 (dk_at dksX5_sumOf_2 1 rfl rfl)
theorem dX5_sumOf_52 : decode cX5_sumOf 52 = .ok (.lconst 0, 1) := dk_9 (dk_at dksX5_sumOf_2 4 rfl rfl)
theorem dX5_sumOf_53 : decode cX5_sumOf 53 = .ok (.ladd, 1) := dk_97 (dk_at dksX5_sumOf_2 5 rfl rfl)
theorem dX5_sumOf_54 : decode cX5_sumOf 54 = .ok (.lstore_n 3, 1) := dk_66 (dk_at dksX5_sumOf_2 6 rfl rfl)
theorem dX5_sumOf_55 : decode cX5_sumOf 55 = .ok (.iinc 5 1, 3) := dk_132 5 1 (dk_at dksX5_sumOf_2 7 rfl rfl)
theorem dX5_sumOf_58 : decode cX5_sumOf 58 = .ok (.goto (-53), 3) := dk_167 255 203 (dk_at dksX5_sumOf_2 10 rfl rfl)
theorem dX5_sumOf_61 : decode cX5_sumOf 61 = .ok (.lload_n 3, 1) := dk_33 (dk_at dksX5_sumOf_2 13 rfl rfl)
theorem dX5_sumOf_62 : decode cX5_sumOf 62 = .ok (.lreturn, 1) := dk_173 (dk_at dksX5_sumOf_2 14 rfl rfl)
abbrev cX5_parted : ByteArray := prog_21_method_78_code
def yX5_parted : MethodName := ⟨RX5, "parted", "()I"⟩
def dkwX5_parted_2 : List UInt8 := [167, 0, 4, 5, 172]
abbrev dktX5_parted_2 : List UInt8 := dkwX5_parted_2 ++ []
def dkwX5_parted_1 : List UInt8 := [182, 1, 72, 105, 66, 31, 33, 148, 158, 0, 7, 4, 167, 0, 14, 31, 33, 148, 154, 0, 7, 3]
abbrev dktX5_parted_1 : List UInt8 := dkwX5_parted_1 ++ dktX5_parted_2
def dkwX5_parted_0 : List UInt8 := [42, 3, 181, 0, 1, 42, 4, 182, 1, 69, 42, 3, 182, 1, 72, 105, 64, 42, 3, 182, 1, 69, 42, 4]
abbrev dktX5_parted_0 : List UInt8 := dkwX5_parted_0 ++ dktX5_parted_1
theorem dksX5_parted_0 : cX5_parted.data.toList.drop 0 = dktX5_parted_0 := by decide +kernel
theorem dksX5_parted_1 : cX5_parted.data.toList.drop 24 = dktX5_parted_1 := dk_seg dksX5_parted_0 24 rfl rfl
theorem dksX5_parted_2 : cX5_parted.data.toList.drop 46 = dktX5_parted_2 := dk_seg dksX5_parted_1 22 rfl rfl
theorem dX5_parted_0 : decode cX5_parted 0 = .ok (.aload_n 0, 1) := dk_42 (dk_at dksX5_parted_0 0 rfl rfl)
theorem dX5_parted_1 : decode cX5_parted 1 = .ok (.iconst 0, 1) := dk_3 (dk_at dksX5_parted_0 1 rfl rfl)
theorem dX5_parted_2 : decode cX5_parted 2 = .ok (.putfield 1, 3) := dk_181 0 1 (dk_at dksX5_parted_0 2 rfl rfl)
theorem dX5_parted_5 : decode cX5_parted 5 = .ok (.aload_n 0, 1) := dk_42 (dk_at dksX5_parted_0 5 rfl rfl)
theorem dX5_parted_6 : decode cX5_parted 6 = .ok (.iconst 1, 1) := dk_4 (dk_at dksX5_parted_0 6 rfl rfl)
theorem dX5_parted_7 : decode cX5_parted 7 = .ok (.invokevirtual 325, 3) := dk_182 1 69 (dk_at dksX5_parted_0 7 rfl rfl)
theorem dX5_parted_10 : decode cX5_parted 10 = .ok (.aload_n 0, 1) := dk_42 (dk_at dksX5_parted_0 10 rfl rfl)
theorem dX5_parted_11 : decode cX5_parted 11 = .ok (.iconst 0, 1) := dk_3 (dk_at dksX5_parted_0 11 rfl rfl)
theorem dX5_parted_12 : decode cX5_parted 12 = .ok (.invokevirtual 328, 3) := dk_182 1 72 (dk_at dksX5_parted_0 12 rfl rfl)
theorem dX5_parted_15 : decode cX5_parted 15 = .ok (.lmul, 1) := dk_105 (dk_at dksX5_parted_0 15 rfl rfl)
theorem dX5_parted_16 : decode cX5_parted 16 = .ok (.lstore_n 1, 1) := dk_64 (dk_at dksX5_parted_0 16 rfl rfl)
theorem dX5_parted_17 : decode cX5_parted 17 = .ok (.aload_n 0, 1) := dk_42 (dk_at dksX5_parted_0 17 rfl rfl)
theorem dX5_parted_18 : decode cX5_parted 18 = .ok (.iconst 0, 1) := dk_3 (dk_at dksX5_parted_0 18 rfl rfl)
theorem dX5_parted_19 : decode cX5_parted 19 = .ok (.invokevirtual 325, 3) := dk_182 1 69 (dk_at dksX5_parted_0 19 rfl rfl)
theorem dX5_parted_22 : decode cX5_parted 22 = .ok (.aload_n 0, 1) := dk_42 (dk_at dksX5_parted_0 22 rfl rfl)
theorem dX5_parted_23 : decode cX5_parted 23 = .ok (.iconst 1, 1) := dk_4 (dk_at dksX5_parted_0 23 rfl rfl)
theorem dX5_parted_24 : decode cX5_parted 24 = .ok (.invokevirtual 328, 3) := dk_182 1 72 (dk_at dksX5_parted_1 0 rfl rfl)
theorem dX5_parted_27 : decode cX5_parted 27 = .ok (.lmul, 1) := dk_105 (dk_at dksX5_parted_1 3 rfl rfl)
theorem dX5_parted_28 : decode cX5_parted 28 = .ok (.lstore_n 3, 1) := dk_66 (dk_at dksX5_parted_1 4 rfl rfl)
theorem dX5_parted_29 : decode cX5_parted 29 = .ok (.lload_n 1, 1) := dk_31 (dk_at dksX5_parted_1 5 rfl rfl)
theorem dX5_parted_30 : decode cX5_parted 30 = .ok (.lload_n 3, 1) := dk_33 (dk_at dksX5_parted_1 6 rfl rfl)
theorem dX5_parted_31 : decode cX5_parted 31 = .ok (.lcmp, 1) := dk_148 (dk_at dksX5_parted_1 7 rfl rfl)
theorem dX5_parted_32 : decode cX5_parted 32 = .ok (.ifCond .le 7, 3) := dk_158 0 7 (dk_at dksX5_parted_1 8 rfl rfl)
theorem dX5_parted_35 : decode cX5_parted 35 = .ok (.iconst 1, 1) := dk_4 (dk_at dksX5_parted_1 11 rfl rfl)
theorem dX5_parted_36 : decode cX5_parted 36 = .ok (.goto 14, 3) := dk_167 0 14 (dk_at dksX5_parted_1 12 rfl rfl)
theorem dX5_parted_39 : decode cX5_parted 39 = .ok (.lload_n 1, 1) := dk_31 (dk_at dksX5_parted_1 15 rfl rfl)
theorem dX5_parted_40 : decode cX5_parted 40 = .ok (.lload_n 3, 1) := dk_33 (dk_at dksX5_parted_1 16 rfl rfl)
theorem dX5_parted_41 : decode cX5_parted 41 = .ok (.lcmp, 1) := dk_148 (dk_at dksX5_parted_1 17 rfl rfl)
theorem dX5_parted_42 : decode cX5_parted 42 = .ok (.ifCond .ne 7, 3) := dk_154 0 7 (dk_at dksX5_parted_1 18 rfl rfl)
theorem dX5_parted_45 : decode cX5_parted 45 = .ok (.iconst 0, 1) := dk_3 (dk_at dksX5_parted_1 21 rfl rfl)
theorem dX5_parted_46 : decode cX5_parted 46 = .ok (.goto 4, 3) := dk_167 0 4 (dk_at dksX5_parted_2 0 rfl rfl)
theorem dX5_parted_49 : decode cX5_parted 49 = .ok (.iconst 2, 1) := dk_5 (dk_at dksX5_parted_2 3 rfl rfl)
theorem dX5_parted_50 : decode cX5_parted 50 = .ok (.ireturn, 1) := dk_172 (dk_at dksX5_parted_2 4 rfl rfl)
abbrev cX5_partedAbove : ByteArray := prog_21_method_76_code
def yX5_partedAbove : MethodName := ⟨RX5, "partedAbove", "(I)J"⟩
def dkwX5_partedAbove_4 : List UInt8 := [154, 0, 7, 10, 167, 0, 4, 32, 105, 55, 8, 22, 6, 22, 8, 97, 173]
abbrev dktX5_partedAbove_4 : List UInt8 := dkwX5_partedAbove_4 ++ []
def dkwX5_partedAbove_3 : List UInt8 := [167, 0, 32, 42, 17, 2, 14, 27, 182, 1, 65, 42, 17, 1, 246, 5, 182, 1, 65, 105, 32, 9, 148]
abbrev dktX5_partedAbove_3 : List UInt8 := dkwX5_partedAbove_3 ++ dktX5_partedAbove_4
def dkwX5_partedAbove_2 : List UInt8 := [22, 4, 9, 148, 154, 0, 7, 10, 167, 0, 5, 22, 4, 105, 55, 6, 22, 4, 9, 148, 154, 0, 7, 9]
abbrev dktX5_partedAbove_2 : List UInt8 := dkwX5_partedAbove_2 ++ dktX5_partedAbove_3
def dkwX5_partedAbove_1 : List UInt8 := [154, 0, 7, 9, 167, 0, 34, 42, 17, 2, 2, 27, 182, 1, 65, 42, 17, 1, 234, 5, 182, 1, 65, 105]
abbrev dktX5_partedAbove_1 : List UInt8 := dkwX5_partedAbove_1 ++ dktX5_partedAbove_2
def dkwX5_partedAbove_0 : List UInt8 := [42, 17, 1, 234, 27, 182, 1, 65, 65, 42, 17, 1, 246, 27, 182, 1, 65, 55, 4, 32, 9, 148]
abbrev dktX5_partedAbove_0 : List UInt8 := dkwX5_partedAbove_0 ++ dktX5_partedAbove_1
theorem dksX5_partedAbove_0 : cX5_partedAbove.data.toList.drop 0 = dktX5_partedAbove_0 := by decide +kernel
theorem dksX5_partedAbove_1 : cX5_partedAbove.data.toList.drop 22 = dktX5_partedAbove_1 := dk_seg dksX5_partedAbove_0 22 rfl rfl
theorem dksX5_partedAbove_2 : cX5_partedAbove.data.toList.drop 46 = dktX5_partedAbove_2 := dk_seg dksX5_partedAbove_1 24 rfl rfl
theorem dksX5_partedAbove_3 : cX5_partedAbove.data.toList.drop 70 = dktX5_partedAbove_3 := dk_seg dksX5_partedAbove_2 24 rfl rfl
theorem dksX5_partedAbove_4 : cX5_partedAbove.data.toList.drop 93 = dktX5_partedAbove_4 := dk_seg dksX5_partedAbove_3 23 rfl rfl
theorem dX5_partedAbove_0 : decode cX5_partedAbove 0 = .ok (.aload_n 0, 1) := dk_42 (dk_at dksX5_partedAbove_0 0 rfl rfl)
theorem dX5_partedAbove_1 : decode cX5_partedAbove 1 = .ok (.sipush 490, 3) := dk_17 1 234 (dk_at dksX5_partedAbove_0 1 rfl rfl)
theorem dX5_partedAbove_4 : decode cX5_partedAbove 4 = .ok (.iload_n 1, 1) := dk_27 (dk_at dksX5_partedAbove_0 4 rfl rfl)
theorem dX5_partedAbove_5 : decode cX5_partedAbove 5 = .ok (.invokevirtual 321, 3) := dk_182 1 65 (dk_at dksX5_partedAbove_0 5 rfl rfl)
theorem dX5_partedAbove_8 : decode cX5_partedAbove 8 = .ok (.lstore_n 2, 1) := dk_65 (dk_at dksX5_partedAbove_0 8 rfl rfl)
theorem dX5_partedAbove_9 : decode cX5_partedAbove 9 = .ok (.aload_n 0, 1) := dk_42 (dk_at dksX5_partedAbove_0 9 rfl rfl)
theorem dX5_partedAbove_10 : decode cX5_partedAbove 10 = .ok (.sipush 502, 3) := dk_17 1 246 (dk_at dksX5_partedAbove_0 10 rfl rfl)
theorem dX5_partedAbove_13 : decode cX5_partedAbove 13 = .ok (.iload_n 1, 1) := dk_27 (dk_at dksX5_partedAbove_0 13 rfl rfl)
theorem dX5_partedAbove_14 : decode cX5_partedAbove 14 = .ok (.invokevirtual 321, 3) := dk_182 1 65 (dk_at dksX5_partedAbove_0 14 rfl rfl)
theorem dX5_partedAbove_17 : decode cX5_partedAbove 17 = .ok (.lstore 4, 2) := dk_55 4 (dk_at dksX5_partedAbove_0 17 rfl rfl)
theorem dX5_partedAbove_19 : decode cX5_partedAbove 19 = .ok (.lload_n 2, 1) := dk_32 (dk_at dksX5_partedAbove_0 19 rfl rfl)
theorem dX5_partedAbove_20 : decode cX5_partedAbove 20 = .ok (.lconst 0, 1) := dk_9 (dk_at dksX5_partedAbove_0 20 rfl rfl)
theorem dX5_partedAbove_21 : decode cX5_partedAbove 21 = .ok (.lcmp, 1) := dk_148 (dk_at dksX5_partedAbove_0 21 rfl rfl)
theorem dX5_partedAbove_22 : decode cX5_partedAbove 22 = .ok (.ifCond .ne 7, 3) := dk_154 0 7 (dk_at dksX5_partedAbove_1 0 rfl rfl)
theorem dX5_partedAbove_25 : decode cX5_partedAbove 25 = .ok (.lconst 0, 1) := dk_9 (dk_at dksX5_partedAbove_1 3 rfl rfl)
theorem dX5_partedAbove_26 : decode cX5_partedAbove 26 = .ok (.goto 34, 3) := dk_167 0 34 (dk_at dksX5_partedAbove_1 4 rfl rfl)
theorem dX5_partedAbove_29 : decode cX5_partedAbove 29 = .ok (.aload_n 0, 1) := dk_42 (dk_at dksX5_partedAbove_1 7 rfl rfl)
theorem dX5_partedAbove_30 : decode cX5_partedAbove 30 = .ok (.sipush 514, 3) := dk_17 2 2 (dk_at dksX5_partedAbove_1 8 rfl rfl)
theorem dX5_partedAbove_33 : decode cX5_partedAbove 33 = .ok (.iload_n 1, 1) := dk_27 (dk_at dksX5_partedAbove_1 11 rfl rfl)
theorem dX5_partedAbove_34 : decode cX5_partedAbove 34 = .ok (.invokevirtual 321, 3) := dk_182 1 65 (dk_at dksX5_partedAbove_1 12 rfl rfl)
theorem dX5_partedAbove_37 : decode cX5_partedAbove 37 = .ok (.aload_n 0, 1) := dk_42 (dk_at dksX5_partedAbove_1 15 rfl rfl)
theorem dX5_partedAbove_38 : decode cX5_partedAbove 38 = .ok (.sipush 490, 3) := dk_17 1 234 (dk_at dksX5_partedAbove_1 16 rfl rfl)
theorem dX5_partedAbove_41 : decode cX5_partedAbove 41 = .ok (.iconst 2, 1) := dk_5 (dk_at dksX5_partedAbove_1 19 rfl rfl)
theorem dX5_partedAbove_42 : decode cX5_partedAbove 42 = .ok (.invokevirtual 321, 3) := dk_182 1 65 (dk_at dksX5_partedAbove_1 20 rfl rfl)
theorem dX5_partedAbove_45 : decode cX5_partedAbove 45 = .ok (.lmul, 1) := dk_105 (dk_at dksX5_partedAbove_1 23 rfl rfl)
theorem dX5_partedAbove_46 : decode cX5_partedAbove 46 = .ok (.lload 4, 2) := dk_22 4 (dk_at dksX5_partedAbove_2 0 rfl rfl)
theorem dX5_partedAbove_48 : decode cX5_partedAbove 48 = .ok (.lconst 0, 1) := dk_9 (dk_at dksX5_partedAbove_2 2 rfl rfl)
theorem dX5_partedAbove_49 : decode cX5_partedAbove 49 = .ok (.lcmp, 1) := dk_148 (dk_at dksX5_partedAbove_2 3 rfl rfl)
theorem dX5_partedAbove_50 : decode cX5_partedAbove 50 = .ok (.ifCond .ne 7, 3) := dk_154 0 7 (dk_at dksX5_partedAbove_2 4 rfl rfl)
theorem dX5_partedAbove_53 : decode cX5_partedAbove 53 = .ok (.lconst 1, 1) := dk_10 (dk_at dksX5_partedAbove_2 7 rfl rfl)
theorem dX5_partedAbove_54 : decode cX5_partedAbove 54 = .ok (.goto 5, 3) := dk_167 0 5 (dk_at dksX5_partedAbove_2 8 rfl rfl)
theorem dX5_partedAbove_57 : decode cX5_partedAbove 57 = .ok (.lload 4, 2) := dk_22 4 (dk_at dksX5_partedAbove_2 11 rfl rfl)
theorem dX5_partedAbove_59 : decode cX5_partedAbove 59 = .ok (.lmul, 1) := dk_105 (dk_at dksX5_partedAbove_2 13 rfl rfl)
theorem dX5_partedAbove_60 : decode cX5_partedAbove 60 = .ok (.lstore 6, 2) := dk_55 6 (dk_at dksX5_partedAbove_2 14 rfl rfl)
theorem dX5_partedAbove_62 : decode cX5_partedAbove 62 = .ok (.lload 4, 2) := dk_22 4 (dk_at dksX5_partedAbove_2 16 rfl rfl)
theorem dX5_partedAbove_64 : decode cX5_partedAbove 64 = .ok (.lconst 0, 1) := dk_9 (dk_at dksX5_partedAbove_2 18 rfl rfl)
theorem dX5_partedAbove_65 : decode cX5_partedAbove 65 = .ok (.lcmp, 1) := dk_148 (dk_at dksX5_partedAbove_2 19 rfl rfl)
theorem dX5_partedAbove_66 : decode cX5_partedAbove 66 = .ok (.ifCond .ne 7, 3) := dk_154 0 7 (dk_at dksX5_partedAbove_2 20 rfl rfl)
theorem dX5_partedAbove_69 : decode cX5_partedAbove 69 = .ok (.lconst 0, 1) := dk_9 (dk_at dksX5_partedAbove_2 23 rfl rfl)
theorem dX5_partedAbove_70 : decode cX5_partedAbove 70 = .ok (.goto 32, 3) := dk_167 0 32 (dk_at dksX5_partedAbove_3 0 rfl rfl)
theorem dX5_partedAbove_73 : decode cX5_partedAbove 73 = .ok (.aload_n 0, 1) := dk_42 (dk_at dksX5_partedAbove_3 3 rfl rfl)
theorem dX5_partedAbove_74 : decode cX5_partedAbove 74 = .ok (.sipush 526, 3) := dk_17 2 14 (dk_at dksX5_partedAbove_3 4 rfl rfl)
theorem dX5_partedAbove_77 : decode cX5_partedAbove 77 = .ok (.iload_n 1, 1) := dk_27 (dk_at dksX5_partedAbove_3 7 rfl rfl)
theorem dX5_partedAbove_78 : decode cX5_partedAbove 78 = .ok (.invokevirtual 321, 3) := dk_182 1 65 (dk_at dksX5_partedAbove_3 8 rfl rfl)
theorem dX5_partedAbove_81 : decode cX5_partedAbove 81 = .ok (.aload_n 0, 1) := dk_42 (dk_at dksX5_partedAbove_3 11 rfl rfl)
theorem dX5_partedAbove_82 : decode cX5_partedAbove 82 = .ok (.sipush 502, 3) := dk_17 1 246 (dk_at dksX5_partedAbove_3 12 rfl rfl)
theorem dX5_partedAbove_85 : decode cX5_partedAbove 85 = .ok (.iconst 2, 1) := dk_5 (dk_at dksX5_partedAbove_3 15 rfl rfl)
theorem dX5_partedAbove_86 : decode cX5_partedAbove 86 = .ok (.invokevirtual 321, 3) := dk_182 1 65 (dk_at dksX5_partedAbove_3 16 rfl rfl)
theorem dX5_partedAbove_89 : decode cX5_partedAbove 89 = .ok (.lmul, 1) := dk_105 (dk_at dksX5_partedAbove_3 19 rfl rfl)
theorem dX5_partedAbove_90 : decode cX5_partedAbove 90 = .ok (.lload_n 2, 1) := dk_32 (dk_at dksX5_partedAbove_3 20 rfl rfl)
theorem dX5_partedAbove_91 : decode cX5_partedAbove 91 = .ok (.lconst 0, 1) := dk_9 (dk_at dksX5_partedAbove_3 21 rfl rfl)
theorem dX5_partedAbove_92 : decode cX5_partedAbove 92 = .ok (.lcmp, 1) := dk_148 (dk_at dksX5_partedAbove_3 22 rfl rfl)
theorem dX5_partedAbove_93 : decode cX5_partedAbove 93 = .ok (.ifCond .ne 7, 3) := dk_154 0 7 (dk_at dksX5_partedAbove_4 0 rfl rfl)
theorem dX5_partedAbove_96 : decode cX5_partedAbove 96 = .ok (.lconst 1, 1) := dk_10 (dk_at dksX5_partedAbove_4 3 rfl rfl)
theorem dX5_partedAbove_97 : decode cX5_partedAbove 97 = .ok (.goto 4, 3) := dk_167 0 4 (dk_at dksX5_partedAbove_4 4 rfl rfl)
theorem dX5_partedAbove_100 : decode cX5_partedAbove 100 = .ok (.lload_n 2, 1) := dk_32 (dk_at dksX5_partedAbove_4 7 rfl rfl)
theorem dX5_partedAbove_101 : decode cX5_partedAbove 101 = .ok (.lmul, 1) := dk_105 (dk_at dksX5_partedAbove_4 8 rfl rfl)
theorem dX5_partedAbove_102 : decode cX5_partedAbove 102 = .ok (.lstore 8, 2) := dk_55 8 (dk_at dksX5_partedAbove_4 9 rfl rfl)
theorem dX5_partedAbove_104 : decode cX5_partedAbove 104 = .ok (.lload 6, 2) := dk_22 6 (dk_at dksX5_partedAbove_4 11 rfl rfl)
theorem dX5_partedAbove_106 : decode cX5_partedAbove 106 = .ok (.lload 8, 2) := dk_22 8 (dk_at dksX5_partedAbove_4 13 rfl rfl)
theorem dX5_partedAbove_108 : decode cX5_partedAbove 108 = .ok (.ladd, 1) := dk_97 (dk_at dksX5_partedAbove_4 15 rfl rfl)
theorem dX5_partedAbove_109 : decode cX5_partedAbove 109 = .ok (.lreturn, 1) := dk_173 (dk_at dksX5_partedAbove_4 16 rfl rfl)
abbrev cX5_partedBelow : ByteArray := prog_21_method_77_code
def yX5_partedBelow : MethodName := ⟨RX5, "partedBelow", "(I)J"⟩
def dkwX5_partedBelow_1 : List UInt8 := [154, 0, 7, 10, 167, 0, 4, 32, 22, 4, 9, 148, 154, 0, 7, 10, 167, 0, 5, 22, 4, 105, 173]
abbrev dktX5_partedBelow_1 : List UInt8 := dkwX5_partedBelow_1 ++ []
def dkwX5_partedBelow_0 : List UInt8 := [42, 17, 1, 234, 27, 182, 1, 65, 65, 42, 17, 1, 246, 27, 182, 1, 65, 55, 4, 32, 9, 148]
abbrev dktX5_partedBelow_0 : List UInt8 := dkwX5_partedBelow_0 ++ dktX5_partedBelow_1
theorem dksX5_partedBelow_0 : cX5_partedBelow.data.toList.drop 0 = dktX5_partedBelow_0 := by decide +kernel
theorem dksX5_partedBelow_1 : cX5_partedBelow.data.toList.drop 22 = dktX5_partedBelow_1 := dk_seg dksX5_partedBelow_0 22 rfl rfl
theorem dX5_partedBelow_0 : decode cX5_partedBelow 0 = .ok (.aload_n 0, 1) := dk_42 (dk_at dksX5_partedBelow_0 0 rfl rfl)
theorem dX5_partedBelow_1 : decode cX5_partedBelow 1 = .ok (.sipush 490, 3) := dk_17 1 234 (dk_at dksX5_partedBelow_0 1 rfl rfl)
theorem dX5_partedBelow_4 : decode cX5_partedBelow 4 = .ok (.iload_n 1, 1) := dk_27 (dk_at dksX5_partedBelow_0 4 rfl rfl)
theorem dX5_partedBelow_5 : decode cX5_partedBelow 5 = .ok (.invokevirtual 321, 3) := dk_182 1 65 (dk_at dksX5_partedBelow_0 5 rfl rfl)
theorem dX5_partedBelow_8 : decode cX5_partedBelow 8 = .ok (.lstore_n 2, 1) := dk_65 (dk_at dksX5_partedBelow_0 8 rfl rfl)
theorem dX5_partedBelow_9 : decode cX5_partedBelow 9 = .ok (.aload_n 0, 1) := dk_42 (dk_at dksX5_partedBelow_0 9 rfl rfl)
theorem dX5_partedBelow_10 : decode cX5_partedBelow 10 = .ok (.sipush 502, 3) := dk_17 1 246 (dk_at dksX5_partedBelow_0 10 rfl rfl)
theorem dX5_partedBelow_13 : decode cX5_partedBelow 13 = .ok (.iload_n 1, 1) := dk_27 (dk_at dksX5_partedBelow_0 13 rfl rfl)
theorem dX5_partedBelow_14 : decode cX5_partedBelow 14 = .ok (.invokevirtual 321, 3) := dk_182 1 65 (dk_at dksX5_partedBelow_0 14 rfl rfl)
theorem dX5_partedBelow_17 : decode cX5_partedBelow 17 = .ok (.lstore 4, 2) := dk_55 4 (dk_at dksX5_partedBelow_0 17 rfl rfl)
theorem dX5_partedBelow_19 : decode cX5_partedBelow 19 = .ok (.lload_n 2, 1) := dk_32 (dk_at dksX5_partedBelow_0 19 rfl rfl)
theorem dX5_partedBelow_20 : decode cX5_partedBelow 20 = .ok (.lconst 0, 1) := dk_9 (dk_at dksX5_partedBelow_0 20 rfl rfl)
theorem dX5_partedBelow_21 : decode cX5_partedBelow 21 = .ok (.lcmp, 1) := dk_148 (dk_at dksX5_partedBelow_0 21 rfl rfl)
theorem dX5_partedBelow_22 : decode cX5_partedBelow 22 = .ok (.ifCond .ne 7, 3) := dk_154 0 7 (dk_at dksX5_partedBelow_1 0 rfl rfl)
theorem dX5_partedBelow_25 : decode cX5_partedBelow 25 = .ok (.lconst 1, 1) := dk_10 (dk_at dksX5_partedBelow_1 3 rfl rfl)
theorem dX5_partedBelow_26 : decode cX5_partedBelow 26 = .ok (.goto 4, 3) := dk_167 0 4 (dk_at dksX5_partedBelow_1 4 rfl rfl)
theorem dX5_partedBelow_29 : decode cX5_partedBelow 29 = .ok (.lload_n 2, 1) := dk_32 (dk_at dksX5_partedBelow_1 7 rfl rfl)
theorem dX5_partedBelow_30 : decode cX5_partedBelow 30 = .ok (.lload 4, 2) := dk_22 4 (dk_at dksX5_partedBelow_1 8 rfl rfl)
theorem dX5_partedBelow_32 : decode cX5_partedBelow 32 = .ok (.lconst 0, 1) := dk_9 (dk_at dksX5_partedBelow_1 10 rfl rfl)
theorem dX5_partedBelow_33 : decode cX5_partedBelow 33 = .ok (.lcmp, 1) := dk_148 (dk_at dksX5_partedBelow_1 11 rfl rfl)
theorem dX5_partedBelow_34 : decode cX5_partedBelow 34 = .ok (.ifCond .ne 7, 3) := dk_154 0 7 (dk_at dksX5_partedBelow_1 12 rfl rfl)
theorem dX5_partedBelow_37 : decode cX5_partedBelow 37 = .ok (.lconst 1, 1) := dk_10 (dk_at dksX5_partedBelow_1 15 rfl rfl)
theorem dX5_partedBelow_38 : decode cX5_partedBelow 38 = .ok (.goto 5, 3) := dk_167 0 5 (dk_at dksX5_partedBelow_1 16 rfl rfl)
theorem dX5_partedBelow_41 : decode cX5_partedBelow 41 = .ok (.lload 4, 2) := dk_22 4 (dk_at dksX5_partedBelow_1 19 rfl rfl)
theorem dX5_partedBelow_43 : decode cX5_partedBelow 43 = .ok (.lmul, 1) := dk_105 (dk_at dksX5_partedBelow_1 21 rfl rfl)
theorem dX5_partedBelow_44 : decode cX5_partedBelow 44 = .ok (.lreturn, 1) := dk_173 (dk_at dksX5_partedBelow_1 22 rfl rfl)
abbrev cX5_worst : ByteArray := prog_21_method_83_code
def yX5_worst : MethodName := ⟨RX5, "worst", "(II)I"⟩
def dkwX5_worst_4 : List UInt8 := [29, 182, 1, 85, 182, 1, 82, 167, 0, 8, 42, 29, 182, 1, 85, 172]
abbrev dktX5_worst_4 : List UInt8 := dkwX5_worst_4 ++ []
def dkwX5_worst_3 : List UInt8 := [162, 0, 17, 28, 154, 0, 7, 29, 167, 0, 8, 42, 29, 182, 1, 82, 172, 28, 5, 160, 0, 15, 42, 42]
abbrev dktX5_worst_3 : List UInt8 := dkwX5_worst_3 ++ dktX5_worst_4
def dkwX5_worst_2 : List UInt8 := [17, 1, 221, 46, 164, 0, 11, 42, 19, 1, 78, 182, 1, 27, 172, 42, 27, 182, 1, 79, 62, 28, 5]
abbrev dktX5_worst_2 : List UInt8 := dkwX5_worst_2 ++ dktX5_worst_3
def dkwX5_worst_1 : List UInt8 := [133, 9, 20, 0, 213, 184, 0, 152, 153, 0, 22, 28, 4, 164, 0, 25, 5, 27, 104, 42, 180, 0, 17]
abbrev dktX5_worst_1 : List UInt8 := dkwX5_worst_1 ++ dktX5_worst_2
def dkwX5_worst_0 : List UInt8 := [42, 3, 181, 0, 1, 27, 133, 9, 42, 180, 0, 17, 17, 1, 221, 46, 133, 184, 0, 152, 153, 0, 34, 28]
abbrev dktX5_worst_0 : List UInt8 := dkwX5_worst_0 ++ dktX5_worst_1
theorem dksX5_worst_0 : cX5_worst.data.toList.drop 0 = dktX5_worst_0 := by decide +kernel
theorem dksX5_worst_1 : cX5_worst.data.toList.drop 24 = dktX5_worst_1 := dk_seg dksX5_worst_0 24 rfl rfl
theorem dksX5_worst_2 : cX5_worst.data.toList.drop 47 = dktX5_worst_2 := dk_seg dksX5_worst_1 23 rfl rfl
theorem dksX5_worst_3 : cX5_worst.data.toList.drop 70 = dktX5_worst_3 := dk_seg dksX5_worst_2 23 rfl rfl
theorem dksX5_worst_4 : cX5_worst.data.toList.drop 94 = dktX5_worst_4 := dk_seg dksX5_worst_3 24 rfl rfl
theorem dX5_worst_0 : decode cX5_worst 0 = .ok (.aload_n 0, 1) := dk_42 (dk_at dksX5_worst_0 0 rfl rfl)
theorem dX5_worst_1 : decode cX5_worst 1 = .ok (.iconst 0, 1) := dk_3 (dk_at dksX5_worst_0 1 rfl rfl)
theorem dX5_worst_2 : decode cX5_worst 2 = .ok (.putfield 1, 3) := dk_181 0 1 (dk_at dksX5_worst_0 2 rfl rfl)
theorem dX5_worst_5 : decode cX5_worst 5 = .ok (.iload_n 1, 1) := dk_27 (dk_at dksX5_worst_0 5 rfl rfl)
theorem dX5_worst_6 : decode cX5_worst 6 = .ok (.i2l, 1) := dk_133 (dk_at dksX5_worst_0 6 rfl rfl)
theorem dX5_worst_7 : decode cX5_worst 7 = .ok (.lconst 0, 1) := dk_9 (dk_at dksX5_worst_0 7 rfl rfl)
theorem dX5_worst_8 : decode cX5_worst 8 = .ok (.aload_n 0, 1) := dk_42 (dk_at dksX5_worst_0 8 rfl rfl)
theorem dX5_worst_9 : decode cX5_worst 9 = .ok (.getfield 17, 3) := dk_180 0 17 (dk_at dksX5_worst_0 9 rfl rfl)
theorem dX5_worst_12 : decode cX5_worst 12 = .ok (.sipush 477, 3) := dk_17 1 221 (dk_at dksX5_worst_0 12 rfl rfl)
theorem dX5_worst_15 : decode cX5_worst 15 = .ok (.iaload, 1) := dk_46 (dk_at dksX5_worst_0 15 rfl rfl)
theorem dX5_worst_16 : decode cX5_worst 16 = .ok (.i2l, 1) := dk_133 (dk_at dksX5_worst_0 16 rfl rfl)
theorem dX5_worst_17 : decode cX5_worst 17 = .ok (.invokestatic 152, 3) := dk_184 0 152 (dk_at dksX5_worst_0 17 rfl rfl)
theorem dX5_worst_20 : decode cX5_worst 20 = .ok (.ifCond .eq 34, 3) := dk_153 0 34 (dk_at dksX5_worst_0 20 rfl rfl)
theorem dX5_worst_23 : decode cX5_worst 23 = .ok (.iload_n 2, 1) := dk_28 (dk_at dksX5_worst_0 23 rfl rfl)
theorem dX5_worst_24 : decode cX5_worst 24 = .ok (.i2l, 1) := dk_133 (dk_at dksX5_worst_1 0 rfl rfl)
theorem dX5_worst_25 : decode cX5_worst 25 = .ok (.lconst 0, 1) := dk_9 (dk_at dksX5_worst_1 1 rfl rfl)
theorem dX5_worst_26 : decode cX5_worst 26 = .ok (.ldc2_w 213, 3) := dk_20 0 213 (dk_at dksX5_worst_1 2 rfl rfl)
theorem dX5_worst_29 : decode cX5_worst 29 = .ok (.invokestatic 152, 3) := dk_184 0 152 (dk_at dksX5_worst_1 5 rfl rfl)
theorem dX5_worst_32 : decode cX5_worst 32 = .ok (.ifCond .eq 22, 3) := dk_153 0 22 (dk_at dksX5_worst_1 8 rfl rfl)
theorem dX5_worst_35 : decode cX5_worst 35 = .ok (.iload_n 2, 1) := dk_28 (dk_at dksX5_worst_1 11 rfl rfl)
theorem dX5_worst_36 : decode cX5_worst 36 = .ok (.iconst 1, 1) := dk_4 (dk_at dksX5_worst_1 12 rfl rfl)
theorem dX5_worst_37 : decode cX5_worst 37 = .ok (.if_icmp .le 25, 3) := dk_164 0 25 (dk_at dksX5_worst_1 13 rfl rfl)
theorem dX5_worst_40 : decode cX5_worst 40 = .ok (.iconst 2, 1) := dk_5 (dk_at dksX5_worst_1 16 rfl rfl)
theorem dX5_worst_41 : decode cX5_worst 41 = .ok (.iload_n 1, 1) := dk_27 (dk_at dksX5_worst_1 17 rfl rfl)
theorem dX5_worst_42 : decode cX5_worst 42 = .ok (.imul, 1) := dk_104 (dk_at dksX5_worst_1 18 rfl rfl)
theorem dX5_worst_43 : decode cX5_worst 43 = .ok (.aload_n 0, 1) := dk_42 (dk_at dksX5_worst_1 19 rfl rfl)
theorem dX5_worst_44 : decode cX5_worst 44 = .ok (.getfield 17, 3) := dk_180 0 17 (dk_at dksX5_worst_1 20 rfl rfl)
theorem dX5_worst_47 : decode cX5_worst 47 = .ok (.sipush 477, 3) := dk_17 1 221 (dk_at dksX5_worst_2 0 rfl rfl)
theorem dX5_worst_50 : decode cX5_worst 50 = .ok (.iaload, 1) := dk_46 (dk_at dksX5_worst_2 3 rfl rfl)
theorem dX5_worst_51 : decode cX5_worst 51 = .ok (.if_icmp .le 11, 3) := dk_164 0 11 (dk_at dksX5_worst_2 4 rfl rfl)
theorem dX5_worst_54 : decode cX5_worst 54 = .ok (.aload_n 0, 1) := dk_42 (dk_at dksX5_worst_2 7 rfl rfl)
theorem dX5_worst_55 : decode cX5_worst 55 = .ok (.ldc_w 334, 3) := dk_19 1 78 (dk_at dksX5_worst_2 8 rfl rfl)
theorem dX5_worst_58 : decode cX5_worst 58 = .ok (.invokevirtual 283, 3) := dk_182 1 27 (dk_at dksX5_worst_2 11 rfl rfl)
theorem dX5_worst_61 : decode cX5_worst 61 = .ok (.ireturn, 1) := dk_172 (dk_at dksX5_worst_2 14 rfl rfl)
theorem dX5_worst_62 : decode cX5_worst 62 = .ok (.aload_n 0, 1) := dk_42 (dk_at dksX5_worst_2 15 rfl rfl)
theorem dX5_worst_63 : decode cX5_worst 63 = .ok (.iload_n 1, 1) := dk_27 (dk_at dksX5_worst_2 16 rfl rfl)
theorem dX5_worst_64 : decode cX5_worst 64 = .ok (.invokevirtual 335, 3) := dk_182 1 79 (dk_at dksX5_worst_2 17 rfl rfl)
theorem dX5_worst_67 : decode cX5_worst 67 = .ok (.istore_n 3, 1) := dk_62 (dk_at dksX5_worst_2 20 rfl rfl)
theorem dX5_worst_68 : decode cX5_worst 68 = .ok (.iload_n 2, 1) := dk_28 (dk_at dksX5_worst_2 21 rfl rfl)
theorem dX5_worst_69 : decode cX5_worst 69 = .ok (.iconst 2, 1) := dk_5 (dk_at dksX5_worst_2 22 rfl rfl)
theorem dX5_worst_70 : decode cX5_worst 70 = .ok (.if_icmp .ge 17, 3) := dk_162 0 17 (dk_at dksX5_worst_3 0 rfl rfl)
theorem dX5_worst_73 : decode cX5_worst 73 = .ok (.iload_n 2, 1) := dk_28 (dk_at dksX5_worst_3 3 rfl rfl)
theorem dX5_worst_74 : decode cX5_worst 74 = .ok (.ifCond .ne 7, 3) := dk_154 0 7 (dk_at dksX5_worst_3 4 rfl rfl)
theorem dX5_worst_77 : decode cX5_worst 77 = .ok (.iload_n 3, 1) := dk_29 (dk_at dksX5_worst_3 7 rfl rfl)
theorem dX5_worst_78 : decode cX5_worst 78 = .ok (.goto 8, 3) := dk_167 0 8 (dk_at dksX5_worst_3 8 rfl rfl)
theorem dX5_worst_81 : decode cX5_worst 81 = .ok (.aload_n 0, 1) := dk_42 (dk_at dksX5_worst_3 11 rfl rfl)
theorem dX5_worst_82 : decode cX5_worst 82 = .ok (.iload_n 3, 1) := dk_29 (dk_at dksX5_worst_3 12 rfl rfl)
theorem dX5_worst_83 : decode cX5_worst 83 = .ok (.invokevirtual 338, 3) := dk_182 1 82 (dk_at dksX5_worst_3 13 rfl rfl)
theorem dX5_worst_86 : decode cX5_worst 86 = .ok (.ireturn, 1) := dk_172 (dk_at dksX5_worst_3 16 rfl rfl)
theorem dX5_worst_87 : decode cX5_worst 87 = .ok (.iload_n 2, 1) := dk_28 (dk_at dksX5_worst_3 17 rfl rfl)
theorem dX5_worst_88 : decode cX5_worst 88 = .ok (.iconst 2, 1) := dk_5 (dk_at dksX5_worst_3 18 rfl rfl)
theorem dX5_worst_89 : decode cX5_worst 89 = .ok (.if_icmp .ne 15, 3) := dk_160 0 15 (dk_at dksX5_worst_3 19 rfl rfl)
theorem dX5_worst_92 : decode cX5_worst 92 = .ok (.aload_n 0, 1) := dk_42 (dk_at dksX5_worst_3 22 rfl rfl)
theorem dX5_worst_93 : decode cX5_worst 93 = .ok (.aload_n 0, 1) := dk_42 (dk_at dksX5_worst_3 23 rfl rfl)
theorem dX5_worst_94 : decode cX5_worst 94 = .ok (.iload_n 3, 1) := dk_29 (dk_at dksX5_worst_4 0 rfl rfl)
theorem dX5_worst_95 : decode cX5_worst 95 = .ok (.invokevirtual 341, 3) := dk_182 1 85 (dk_at dksX5_worst_4 1 rfl rfl)
theorem dX5_worst_98 : decode cX5_worst 98 = .ok (.invokevirtual 338, 3) := dk_182 1 82 (dk_at dksX5_worst_4 4 rfl rfl)
theorem dX5_worst_101 : decode cX5_worst 101 = .ok (.goto 8, 3) := dk_167 0 8 (dk_at dksX5_worst_4 7 rfl rfl)
theorem dX5_worst_104 : decode cX5_worst 104 = .ok (.aload_n 0, 1) := dk_42 (dk_at dksX5_worst_4 10 rfl rfl)
theorem dX5_worst_105 : decode cX5_worst 105 = .ok (.iload_n 3, 1) := dk_29 (dk_at dksX5_worst_4 11 rfl rfl)
theorem dX5_worst_106 : decode cX5_worst 106 = .ok (.invokevirtual 341, 3) := dk_182 1 85 (dk_at dksX5_worst_4 12 rfl rfl)
theorem dX5_worst_109 : decode cX5_worst 109 = .ok (.ireturn, 1) := dk_172 (dk_at dksX5_worst_4 15 rfl rfl)
abbrev cX5_worstOf : ByteArray := prog_21_method_80_code
def yX5_worstOf : MethodName := ⟨RX5, "worstOf", "(I)I"⟩
def dkwX5_worstOf_3 : List UInt8 := [21, 4, 120, 128, 61, 132, 3, 1, 167, 255, 182, 28, 172]
abbrev dktX5_worstOf_3 : List UInt8 := dkwX5_worstOf_3 ++ []
def dkwX5_worstOf_2 : List UInt8 := [182, 1, 75, 42, 21, 4, 182, 1, 75, 164, 0, 7, 21, 5, 54, 4, 132, 5, 1, 167, 255, 206, 28, 4]
abbrev dktX5_worstOf_2 : List UInt8 := dkwX5_worstOf_2 ++ dktX5_worstOf_3
def dkwX5_worstOf_1 : List UInt8 := [46, 162, 0, 43, 28, 21, 5, 122, 4, 126, 154, 0, 28, 21, 4, 2, 159, 0, 18, 42, 21, 5]
abbrev dktX5_worstOf_1 : List UInt8 := dkwX5_worstOf_1 ++ dktX5_worstOf_2
def dkwX5_worstOf_0 : List UInt8 := [3, 61, 3, 62, 29, 27, 162, 0, 75, 2, 54, 4, 3, 54, 5, 21, 5, 42, 180, 0, 17, 17, 1, 221]
abbrev dktX5_worstOf_0 : List UInt8 := dkwX5_worstOf_0 ++ dktX5_worstOf_1
theorem dksX5_worstOf_0 : cX5_worstOf.data.toList.drop 0 = dktX5_worstOf_0 := by decide +kernel
theorem dksX5_worstOf_1 : cX5_worstOf.data.toList.drop 24 = dktX5_worstOf_1 := dk_seg dksX5_worstOf_0 24 rfl rfl
theorem dksX5_worstOf_2 : cX5_worstOf.data.toList.drop 46 = dktX5_worstOf_2 := dk_seg dksX5_worstOf_1 22 rfl rfl
theorem dksX5_worstOf_3 : cX5_worstOf.data.toList.drop 70 = dktX5_worstOf_3 := dk_seg dksX5_worstOf_2 24 rfl rfl
theorem dX5_worstOf_0 : decode cX5_worstOf 0 = .ok (.iconst 0, 1) := dk_3 (dk_at dksX5_worstOf_0 0 rfl rfl)
theorem dX5_worstOf_1 : decode cX5_worstOf 1 = .ok (.istore_n 2, 1) := dk_61 (dk_at dksX5_worstOf_0 1 rfl rfl)
theorem dX5_worstOf_2 : decode cX5_worstOf 2 = .ok (.iconst 0, 1) := dk_3 (dk_at dksX5_worstOf_0 2 rfl rfl)
theorem dX5_worstOf_3 : decode cX5_worstOf 3 = .ok (.istore_n 3, 1) := dk_62 (dk_at dksX5_worstOf_0 3 rfl rfl)
theorem dX5_worstOf_4 : decode cX5_worstOf 4 = .ok (.iload_n 3, 1) := dk_29 (dk_at dksX5_worstOf_0 4 rfl rfl)
theorem dX5_worstOf_5 : decode cX5_worstOf 5 = .ok (.iload_n 1, 1) := dk_27 (dk_at dksX5_worstOf_0 5 rfl rfl)
theorem dX5_worstOf_6 : decode cX5_worstOf 6 = .ok (.if_icmp .ge 75, 3) := dk_162 0 75 (dk_at dksX5_worstOf_0 6 rfl rfl)
theorem dX5_worstOf_9 : decode cX5_worstOf 9 = .ok (.iconst (-1), 1) := dk_2 (dk_at dksX5_worstOf_0 9 rfl rfl)
theorem dX5_worstOf_10 : decode cX5_worstOf 10 = .ok (.istore 4, 2) := dk_54 4 (dk_at dksX5_worstOf_0 10 rfl rfl)
theorem dX5_worstOf_12 : decode cX5_worstOf 12 = .ok (.iconst 0, 1) := dk_3 (dk_at dksX5_worstOf_0 12 rfl rfl)
theorem dX5_worstOf_13 : decode cX5_worstOf 13 = .ok (.istore 5, 2) := dk_54 5 (dk_at dksX5_worstOf_0 13 rfl rfl)
theorem dX5_worstOf_15 : decode cX5_worstOf 15 = .ok (.iload 5, 2) := dk_21 5 (dk_at dksX5_worstOf_0 15 rfl rfl)
theorem dX5_worstOf_17 : decode cX5_worstOf 17 = .ok (.aload_n 0, 1) := dk_42 (dk_at dksX5_worstOf_0 17 rfl rfl)
theorem dX5_worstOf_18 : decode cX5_worstOf 18 = .ok (.getfield 17, 3) := dk_180 0 17 (dk_at dksX5_worstOf_0 18 rfl rfl)
theorem dX5_worstOf_21 : decode cX5_worstOf 21 = .ok (.sipush 477, 3) := dk_17 1 221 (dk_at dksX5_worstOf_0 21 rfl rfl)
theorem dX5_worstOf_24 : decode cX5_worstOf 24 = .ok (.iaload, 1) := dk_46 (dk_at dksX5_worstOf_1 0 rfl rfl)
theorem dX5_worstOf_25 : decode cX5_worstOf 25 = .ok (.if_icmp .ge 43, 3) := dk_162 0 43 (dk_at dksX5_worstOf_1 1 rfl rfl)
theorem dX5_worstOf_28 : decode cX5_worstOf 28 = .ok (.iload_n 2, 1) := dk_28 (dk_at dksX5_worstOf_1 4 rfl rfl)
theorem dX5_worstOf_29 : decode cX5_worstOf 29 = .ok (.iload 5, 2) := dk_21 5 (dk_at dksX5_worstOf_1 5 rfl rfl)
theorem dX5_worstOf_31 : decode cX5_worstOf 31 = .ok (.ishr, 1) := dk_122 (dk_at dksX5_worstOf_1 7 rfl rfl)
theorem dX5_worstOf_32 : decode cX5_worstOf 32 = .ok (.iconst 1, 1) := dk_4 (dk_at dksX5_worstOf_1 8 rfl rfl)
theorem dX5_worstOf_33 : decode cX5_worstOf 33 = .ok (.iand, 1) := dk_126 (dk_at dksX5_worstOf_1 9 rfl rfl)
theorem dX5_worstOf_34 : decode cX5_worstOf 34 = .ok (.ifCond .ne 28, 3) := dk_154 0 28 (dk_at dksX5_worstOf_1 10 rfl rfl)
theorem dX5_worstOf_37 : decode cX5_worstOf 37 = .ok (.iload 4, 2) := dk_21 4 (dk_at dksX5_worstOf_1 13 rfl rfl)
theorem dX5_worstOf_39 : decode cX5_worstOf 39 = .ok (.iconst (-1), 1) := dk_2 (dk_at dksX5_worstOf_1 15 rfl rfl)
theorem dX5_worstOf_40 : decode cX5_worstOf 40 = .ok (.if_icmp .eq 18, 3) := dk_159 0 18 (dk_at dksX5_worstOf_1 16 rfl rfl)
theorem dX5_worstOf_43 : decode cX5_worstOf 43 = .ok (.aload_n 0, 1) := dk_42 (dk_at dksX5_worstOf_1 19 rfl rfl)
theorem dX5_worstOf_44 : decode cX5_worstOf 44 = .ok (.iload 5, 2) := dk_21 5 (dk_at dksX5_worstOf_1 20 rfl rfl)
theorem dX5_worstOf_46 : decode cX5_worstOf 46 = .ok (.invokevirtual 331, 3) := dk_182 1 75 (dk_at dksX5_worstOf_2 0 rfl rfl)
theorem dX5_worstOf_49 : decode cX5_worstOf 49 = .ok (.aload_n 0, 1) := dk_42 (dk_at dksX5_worstOf_2 3 rfl rfl)
theorem dX5_worstOf_50 : decode cX5_worstOf 50 = .ok (.iload 4, 2) := dk_21 4 (dk_at dksX5_worstOf_2 4 rfl rfl)
theorem dX5_worstOf_52 : decode cX5_worstOf 52 = .ok (.invokevirtual 331, 3) := dk_182 1 75 (dk_at dksX5_worstOf_2 6 rfl rfl)
theorem dX5_worstOf_55 : decode cX5_worstOf 55 = .ok (.if_icmp .le 7, 3) := dk_164 0 7 (dk_at dksX5_worstOf_2 9 rfl rfl)
theorem dX5_worstOf_58 : decode cX5_worstOf 58 = .ok (.iload 5, 2) := dk_21 5 (dk_at dksX5_worstOf_2 12 rfl rfl)
theorem dX5_worstOf_60 : decode cX5_worstOf 60 = .ok (.istore 4, 2) := dk_54 4 (dk_at dksX5_worstOf_2 14 rfl rfl)
theorem dX5_worstOf_62 : decode cX5_worstOf 62 = .ok (.iinc 5 1, 3) := dk_132 5 1 (dk_at dksX5_worstOf_2 16 rfl rfl)
theorem dX5_worstOf_65 : decode cX5_worstOf 65 = .ok (.goto (-50), 3) := dk_167 255 206 (dk_at dksX5_worstOf_2 19 rfl rfl)
theorem dX5_worstOf_68 : decode cX5_worstOf 68 = .ok (.iload_n 2, 1) := dk_28 (dk_at dksX5_worstOf_2 22 rfl rfl)
theorem dX5_worstOf_69 : decode cX5_worstOf 69 = .ok (.iconst 1, 1) := dk_4 (dk_at dksX5_worstOf_2 23 rfl rfl)
theorem dX5_worstOf_70 : decode cX5_worstOf 70 = .ok (.iload 4, 2) := dk_21 4 (dk_at dksX5_worstOf_3 0 rfl rfl)
theorem dX5_worstOf_72 : decode cX5_worstOf 72 = .ok (.ishl, 1) := dk_120 (dk_at dksX5_worstOf_3 2 rfl rfl)
theorem dX5_worstOf_73 : decode cX5_worstOf 73 = .ok (.ior, 1) := dk_128 (dk_at dksX5_worstOf_3 3 rfl rfl)
theorem dX5_worstOf_74 : decode cX5_worstOf 74 = .ok (.istore_n 2, 1) := dk_61 (dk_at dksX5_worstOf_3 4 rfl rfl)
theorem dX5_worstOf_75 : decode cX5_worstOf 75 = .ok (.iinc 3 1, 3) := dk_132 3 1 (dk_at dksX5_worstOf_3 5 rfl rfl)
theorem dX5_worstOf_78 : decode cX5_worstOf 78 = .ok (.goto (-74), 3) := dk_167 255 182 (dk_at dksX5_worstOf_3 8 rfl rfl)
theorem dX5_worstOf_81 : decode cX5_worstOf 81 = .ok (.iload_n 2, 1) := dk_28 (dk_at dksX5_worstOf_3 11 rfl rfl)
theorem dX5_worstOf_82 : decode cX5_worstOf 82 = .ok (.ireturn, 1) := dk_172 (dk_at dksX5_worstOf_3 12 rfl rfl)
abbrev cX5_hurtAt : ByteArray := prog_21_method_79_code
def yX5_hurtAt : MethodName := ⟨RX5, "hurtAt", "(I)I"⟩
def dkwX5_hurtAt_0 : List UInt8 := [42, 180, 0, 17, 17, 2, 2, 27, 96, 46, 42, 180, 0, 17, 17, 2, 14, 27, 96, 46, 96, 172]
abbrev dktX5_hurtAt_0 : List UInt8 := dkwX5_hurtAt_0 ++ []
theorem dksX5_hurtAt_0 : cX5_hurtAt.data.toList.drop 0 = dktX5_hurtAt_0 := by decide +kernel
theorem dX5_hurtAt_0 : decode cX5_hurtAt 0 = .ok (.aload_n 0, 1) := dk_42 (dk_at dksX5_hurtAt_0 0 rfl rfl)
theorem dX5_hurtAt_1 : decode cX5_hurtAt 1 = .ok (.getfield 17, 3) := dk_180 0 17 (dk_at dksX5_hurtAt_0 1 rfl rfl)
theorem dX5_hurtAt_4 : decode cX5_hurtAt 4 = .ok (.sipush 514, 3) := dk_17 2 2 (dk_at dksX5_hurtAt_0 4 rfl rfl)
theorem dX5_hurtAt_7 : decode cX5_hurtAt 7 = .ok (.iload_n 1, 1) := dk_27 (dk_at dksX5_hurtAt_0 7 rfl rfl)
theorem dX5_hurtAt_8 : decode cX5_hurtAt 8 = .ok (.iadd, 1) := dk_96 (dk_at dksX5_hurtAt_0 8 rfl rfl)
theorem dX5_hurtAt_9 : decode cX5_hurtAt 9 = .ok (.iaload, 1) := dk_46 (dk_at dksX5_hurtAt_0 9 rfl rfl)
theorem dX5_hurtAt_10 : decode cX5_hurtAt 10 = .ok (.aload_n 0, 1) := dk_42 (dk_at dksX5_hurtAt_0 10 rfl rfl)
theorem dX5_hurtAt_11 : decode cX5_hurtAt 11 = .ok (.getfield 17, 3) := dk_180 0 17 (dk_at dksX5_hurtAt_0 11 rfl rfl)
theorem dX5_hurtAt_14 : decode cX5_hurtAt 14 = .ok (.sipush 526, 3) := dk_17 2 14 (dk_at dksX5_hurtAt_0 14 rfl rfl)
theorem dX5_hurtAt_17 : decode cX5_hurtAt 17 = .ok (.iload_n 1, 1) := dk_27 (dk_at dksX5_hurtAt_0 17 rfl rfl)
theorem dX5_hurtAt_18 : decode cX5_hurtAt 18 = .ok (.iadd, 1) := dk_96 (dk_at dksX5_hurtAt_0 18 rfl rfl)
theorem dX5_hurtAt_19 : decode cX5_hurtAt 19 = .ok (.iaload, 1) := dk_46 (dk_at dksX5_hurtAt_0 19 rfl rfl)
theorem dX5_hurtAt_20 : decode cX5_hurtAt 20 = .ok (.iadd, 1) := dk_96 (dk_at dksX5_hurtAt_0 20 rfl rfl)
theorem dX5_hurtAt_21 : decode cX5_hurtAt 21 = .ok (.ireturn, 1) := dk_172 (dk_at dksX5_hurtAt_0 21 rfl rfl)
abbrev cX5_fallOf : ByteArray := prog_21_method_82_code
def yX5_fallOf : MethodName := ⟨RX5, "fallOf", "(I)I"⟩
def dkwX5_fallOf_2 : List UInt8 := [61, 132, 3, 1, 167, 255, 209, 28, 172]
abbrev dktX5_fallOf_2 : List UInt8 := dkwX5_fallOf_2 ++ []
def dkwX5_fallOf_1 : List UInt8 := [160, 0, 22, 42, 29, 182, 1, 75, 42, 180, 0, 17, 17, 2, 26, 29, 96, 46, 100, 167, 0, 4, 3, 96]
abbrev dktX5_fallOf_1 : List UInt8 := dkwX5_fallOf_1 ++ dktX5_fallOf_2
def dkwX5_fallOf_0 : List UInt8 := [3, 61, 3, 62, 29, 42, 180, 0, 17, 17, 1, 221, 46, 162, 0, 41, 28, 27, 29, 122, 4, 126, 4]
abbrev dktX5_fallOf_0 : List UInt8 := dkwX5_fallOf_0 ++ dktX5_fallOf_1
theorem dksX5_fallOf_0 : cX5_fallOf.data.toList.drop 0 = dktX5_fallOf_0 := by decide +kernel
theorem dksX5_fallOf_1 : cX5_fallOf.data.toList.drop 23 = dktX5_fallOf_1 := dk_seg dksX5_fallOf_0 23 rfl rfl
theorem dksX5_fallOf_2 : cX5_fallOf.data.toList.drop 47 = dktX5_fallOf_2 := dk_seg dksX5_fallOf_1 24 rfl rfl
theorem dX5_fallOf_0 : decode cX5_fallOf 0 = .ok (.iconst 0, 1) := dk_3 (dk_at dksX5_fallOf_0 0 rfl rfl)
theorem dX5_fallOf_1 : decode cX5_fallOf 1 = .ok (.istore_n 2, 1) := dk_61 (dk_at dksX5_fallOf_0 1 rfl rfl)
theorem dX5_fallOf_2 : decode cX5_fallOf 2 = .ok (.iconst 0, 1) := dk_3 (dk_at dksX5_fallOf_0 2 rfl rfl)
theorem dX5_fallOf_3 : decode cX5_fallOf 3 = .ok (.istore_n 3, 1) := dk_62 (dk_at dksX5_fallOf_0 3 rfl rfl)
theorem dX5_fallOf_4 : decode cX5_fallOf 4 = .ok (.iload_n 3, 1) := dk_29 (dk_at dksX5_fallOf_0 4 rfl rfl)
theorem dX5_fallOf_5 : decode cX5_fallOf 5 = .ok (.aload_n 0, 1) := dk_42 (dk_at dksX5_fallOf_0 5 rfl rfl)
theorem dX5_fallOf_6 : decode cX5_fallOf 6 = .ok (.getfield 17, 3) := dk_180 0 17 (dk_at dksX5_fallOf_0 6 rfl rfl)
theorem dX5_fallOf_9 : decode cX5_fallOf 9 = .ok (.sipush 477, 3) := dk_17 1 221 (dk_at dksX5_fallOf_0 9 rfl rfl)
theorem dX5_fallOf_12 : decode cX5_fallOf 12 = .ok (.iaload, 1) := dk_46 (dk_at dksX5_fallOf_0 12 rfl rfl)
theorem dX5_fallOf_13 : decode cX5_fallOf 13 = .ok (.if_icmp .ge 41, 3) := dk_162 0 41 (dk_at dksX5_fallOf_0 13 rfl rfl)
theorem dX5_fallOf_16 : decode cX5_fallOf 16 = .ok (.iload_n 2, 1) := dk_28 (dk_at dksX5_fallOf_0 16 rfl rfl)
theorem dX5_fallOf_17 : decode cX5_fallOf 17 = .ok (.iload_n 1, 1) := dk_27 (dk_at dksX5_fallOf_0 17 rfl rfl)
theorem dX5_fallOf_18 : decode cX5_fallOf 18 = .ok (.iload_n 3, 1) := dk_29 (dk_at dksX5_fallOf_0 18 rfl rfl)
theorem dX5_fallOf_19 : decode cX5_fallOf 19 = .ok (.ishr, 1) := dk_122 (dk_at dksX5_fallOf_0 19 rfl rfl)
theorem dX5_fallOf_20 : decode cX5_fallOf 20 = .ok (.iconst 1, 1) := dk_4 (dk_at dksX5_fallOf_0 20 rfl rfl)
theorem dX5_fallOf_21 : decode cX5_fallOf 21 = .ok (.iand, 1) := dk_126 (dk_at dksX5_fallOf_0 21 rfl rfl)
theorem dX5_fallOf_22 : decode cX5_fallOf 22 = .ok (.iconst 1, 1) := dk_4 (dk_at dksX5_fallOf_0 22 rfl rfl)
theorem dX5_fallOf_23 : decode cX5_fallOf 23 = .ok (.if_icmp .ne 22, 3) := dk_160 0 22 (dk_at dksX5_fallOf_1 0 rfl rfl)
theorem dX5_fallOf_26 : decode cX5_fallOf 26 = .ok (.aload_n 0, 1) := dk_42 (dk_at dksX5_fallOf_1 3 rfl rfl)
theorem dX5_fallOf_27 : decode cX5_fallOf 27 = .ok (.iload_n 3, 1) := dk_29 (dk_at dksX5_fallOf_1 4 rfl rfl)
theorem dX5_fallOf_28 : decode cX5_fallOf 28 = .ok (.invokevirtual 331, 3) := dk_182 1 75 (dk_at dksX5_fallOf_1 5 rfl rfl)
theorem dX5_fallOf_31 : decode cX5_fallOf 31 = .ok (.aload_n 0, 1) := dk_42 (dk_at dksX5_fallOf_1 8 rfl rfl)
theorem dX5_fallOf_32 : decode cX5_fallOf 32 = .ok (.getfield 17, 3) := dk_180 0 17 (dk_at dksX5_fallOf_1 9 rfl rfl)
theorem dX5_fallOf_35 : decode cX5_fallOf 35 = .ok (.sipush 538, 3) := dk_17 2 26 (dk_at dksX5_fallOf_1 12 rfl rfl)
theorem dX5_fallOf_38 : decode cX5_fallOf 38 = .ok (.iload_n 3, 1) := dk_29 (dk_at dksX5_fallOf_1 15 rfl rfl)
theorem dX5_fallOf_39 : decode cX5_fallOf 39 = .ok (.iadd, 1) := dk_96 (dk_at dksX5_fallOf_1 16 rfl rfl)
theorem dX5_fallOf_40 : decode cX5_fallOf 40 = .ok (.iaload, 1) := dk_46 (dk_at dksX5_fallOf_1 17 rfl rfl)
theorem dX5_fallOf_41 : decode cX5_fallOf 41 = .ok (.isub, 1) := dk_100 (dk_at dksX5_fallOf_1 18 rfl rfl)
theorem dX5_fallOf_42 : decode cX5_fallOf 42 = .ok (.goto 4, 3) := dk_167 0 4 (dk_at dksX5_fallOf_1 19 rfl rfl)
theorem dX5_fallOf_45 : decode cX5_fallOf 45 = .ok (.iconst 0, 1) := dk_3 (dk_at dksX5_fallOf_1 22 rfl rfl)
theorem dX5_fallOf_46 : decode cX5_fallOf 46 = .ok (.iadd, 1) := dk_96 (dk_at dksX5_fallOf_1 23 rfl rfl)
theorem dX5_fallOf_47 : decode cX5_fallOf 47 = .ok (.istore_n 2, 1) := dk_61 (dk_at dksX5_fallOf_2 0 rfl rfl)
theorem dX5_fallOf_48 : decode cX5_fallOf 48 = .ok (.iinc 3 1, 3) := dk_132 3 1 (dk_at dksX5_fallOf_2 1 rfl rfl)
theorem dX5_fallOf_51 : decode cX5_fallOf 51 = .ok (.goto (-47), 3) := dk_167 255 209 (dk_at dksX5_fallOf_2 4 rfl rfl)
theorem dX5_fallOf_54 : decode cX5_fallOf 54 = .ok (.iload_n 2, 1) := dk_28 (dk_at dksX5_fallOf_2 7 rfl rfl)
theorem dX5_fallOf_55 : decode cX5_fallOf 55 = .ok (.ireturn, 1) := dk_172 (dk_at dksX5_fallOf_2 8 rfl rfl)
abbrev cX5_matchesOf : ByteArray := prog_21_method_81_code
def yX5_matchesOf : MethodName := ⟨RX5, "matchesOf", "(I)I"⟩
def dkwX5_matchesOf_5 : List UInt8 := [132, 6, 1, 167, 255, 172, 28, 4, 21, 4, 120, 128, 61, 132, 3, 1, 167, 255, 127, 28, 172]
abbrev dktX5_matchesOf_5 : List UInt8 := dkwX5_matchesOf_5 ++ []
def dkwX5_matchesOf_4 : List UInt8 := [21, 4, 2, 159, 0, 13, 21, 7, 21, 5, 161, 0, 6, 167, 0, 11, 21, 6, 54, 4, 21, 7, 54, 5]
abbrev dktX5_matchesOf_4 : List UInt8 := dkwX5_matchesOf_4 ++ dktX5_matchesOf_5
def dkwX5_matchesOf_3 : List UInt8 := [21, 6, 182, 1, 75, 100, 54, 7, 21, 7, 156, 0, 9, 21, 7, 116, 167, 0, 5, 21, 7, 54, 7]
abbrev dktX5_matchesOf_3 : List UInt8 := dkwX5_matchesOf_3 ++ dktX5_matchesOf_4
def dkwX5_matchesOf_2 : List UInt8 := [162, 0, 77, 27, 28, 128, 21, 6, 122, 4, 126, 4, 160, 0, 6, 167, 0, 56, 42, 29, 182, 1, 75, 42]
abbrev dktX5_matchesOf_2 : List UInt8 := dkwX5_matchesOf_2 ++ dktX5_matchesOf_3
def dkwX5_matchesOf_1 : List UInt8 := [167, 0, 106, 2, 54, 4, 3, 54, 5, 3, 54, 6, 21, 6, 42, 180, 0, 17, 17, 1, 221, 46]
abbrev dktX5_matchesOf_1 : List UInt8 := dkwX5_matchesOf_1 ++ dktX5_matchesOf_2
def dkwX5_matchesOf_0 : List UInt8 := [3, 61, 3, 62, 29, 42, 180, 0, 17, 17, 1, 221, 46, 162, 0, 123, 27, 29, 122, 4, 126, 154, 0, 6]
abbrev dktX5_matchesOf_0 : List UInt8 := dkwX5_matchesOf_0 ++ dktX5_matchesOf_1
theorem dksX5_matchesOf_0 : cX5_matchesOf.data.toList.drop 0 = dktX5_matchesOf_0 := by decide +kernel
theorem dksX5_matchesOf_1 : cX5_matchesOf.data.toList.drop 24 = dktX5_matchesOf_1 := dk_seg dksX5_matchesOf_0 24 rfl rfl
theorem dksX5_matchesOf_2 : cX5_matchesOf.data.toList.drop 46 = dktX5_matchesOf_2 := dk_seg dksX5_matchesOf_1 22 rfl rfl
theorem dksX5_matchesOf_3 : cX5_matchesOf.data.toList.drop 70 = dktX5_matchesOf_3 := dk_seg dksX5_matchesOf_2 24 rfl rfl
theorem dksX5_matchesOf_4 : cX5_matchesOf.data.toList.drop 93 = dktX5_matchesOf_4 := dk_seg dksX5_matchesOf_3 23 rfl rfl
theorem dksX5_matchesOf_5 : cX5_matchesOf.data.toList.drop 117 = dktX5_matchesOf_5 := dk_seg dksX5_matchesOf_4 24 rfl rfl
theorem dX5_matchesOf_0 : decode cX5_matchesOf 0 = .ok (.iconst 0, 1) := dk_3 (dk_at dksX5_matchesOf_0 0 rfl rfl)
theorem dX5_matchesOf_1 : decode cX5_matchesOf 1 = .ok (.istore_n 2, 1) := dk_61 (dk_at dksX5_matchesOf_0 1 rfl rfl)
theorem dX5_matchesOf_2 : decode cX5_matchesOf 2 = .ok (.iconst 0, 1) := dk_3 (dk_at dksX5_matchesOf_0 2 rfl rfl)
theorem dX5_matchesOf_3 : decode cX5_matchesOf 3 = .ok (.istore_n 3, 1) := dk_62 (dk_at dksX5_matchesOf_0 3 rfl rfl)
theorem dX5_matchesOf_4 : decode cX5_matchesOf 4 = .ok (.iload_n 3, 1) := dk_29 (dk_at dksX5_matchesOf_0 4 rfl rfl)
theorem dX5_matchesOf_5 : decode cX5_matchesOf 5 = .ok (.aload_n 0, 1) := dk_42 (dk_at dksX5_matchesOf_0 5 rfl rfl)
theorem dX5_matchesOf_6 : decode cX5_matchesOf 6 = .ok (.getfield 17, 3) := dk_180 0 17 (dk_at dksX5_matchesOf_0 6 rfl rfl)
theorem dX5_matchesOf_9 : decode cX5_matchesOf 9 = .ok (.sipush 477, 3) := dk_17 1 221 (dk_at dksX5_matchesOf_0 9 rfl rfl)
theorem dX5_matchesOf_12 : decode cX5_matchesOf 12 = .ok (.iaload, 1) := dk_46 (dk_at dksX5_matchesOf_0 12 rfl rfl)
theorem dX5_matchesOf_13 : decode cX5_matchesOf 13 = .ok (.if_icmp .ge 123, 3) := dk_162 0 123 (dk_at dksX5_matchesOf_0 13 rfl rfl)
theorem dX5_matchesOf_16 : decode cX5_matchesOf 16 = .ok (.iload_n 1, 1) := dk_27 (dk_at dksX5_matchesOf_0 16 rfl rfl)
theorem dX5_matchesOf_17 : decode cX5_matchesOf 17 = .ok (.iload_n 3, 1) := dk_29 (dk_at dksX5_matchesOf_0 17 rfl rfl)
theorem dX5_matchesOf_18 : decode cX5_matchesOf 18 = .ok (.ishr, 1) := dk_122 (dk_at dksX5_matchesOf_0 18 rfl rfl)
theorem dX5_matchesOf_19 : decode cX5_matchesOf 19 = .ok (.iconst 1, 1) := dk_4 (dk_at dksX5_matchesOf_0 19 rfl rfl)
theorem dX5_matchesOf_20 : decode cX5_matchesOf 20 = .ok (.iand, 1) := dk_126 (dk_at dksX5_matchesOf_0 20 rfl rfl)
theorem dX5_matchesOf_21 : decode cX5_matchesOf 21 = .ok (.ifCond .ne 6, 3) := dk_154 0 6 (dk_at dksX5_matchesOf_0 21 rfl rfl)
theorem dX5_matchesOf_24 : decode cX5_matchesOf 24 = .ok (.goto 106, 3) := dk_167 0 106 (dk_at dksX5_matchesOf_1 0 rfl rfl)
theorem dX5_matchesOf_27 : decode cX5_matchesOf 27 = .ok (.iconst (-1), 1) := dk_2 (dk_at dksX5_matchesOf_1 3 rfl rfl)
theorem dX5_matchesOf_28 : decode cX5_matchesOf 28 = .ok (.istore 4, 2) := dk_54 4 (dk_at dksX5_matchesOf_1 4 rfl rfl)
theorem dX5_matchesOf_30 : decode cX5_matchesOf 30 = .ok (.iconst 0, 1) := dk_3 (dk_at dksX5_matchesOf_1 6 rfl rfl)
theorem dX5_matchesOf_31 : decode cX5_matchesOf 31 = .ok (.istore 5, 2) := dk_54 5 (dk_at dksX5_matchesOf_1 7 rfl rfl)
theorem dX5_matchesOf_33 : decode cX5_matchesOf 33 = .ok (.iconst 0, 1) := dk_3 (dk_at dksX5_matchesOf_1 9 rfl rfl)
theorem dX5_matchesOf_34 : decode cX5_matchesOf 34 = .ok (.istore 6, 2) := dk_54 6 (dk_at dksX5_matchesOf_1 10 rfl rfl)
theorem dX5_matchesOf_36 : decode cX5_matchesOf 36 = .ok (.iload 6, 2) := dk_21 6 (dk_at dksX5_matchesOf_1 12 rfl rfl)
theorem dX5_matchesOf_38 : decode cX5_matchesOf 38 = .ok (.aload_n 0, 1) := dk_42 (dk_at dksX5_matchesOf_1 14 rfl rfl)
theorem dX5_matchesOf_39 : decode cX5_matchesOf 39 = .ok (.getfield 17, 3) := dk_180 0 17 (dk_at dksX5_matchesOf_1 15 rfl rfl)
theorem dX5_matchesOf_42 : decode cX5_matchesOf 42 = .ok (.sipush 477, 3) := dk_17 1 221 (dk_at dksX5_matchesOf_1 18 rfl rfl)
theorem dX5_matchesOf_45 : decode cX5_matchesOf 45 = .ok (.iaload, 1) := dk_46 (dk_at dksX5_matchesOf_1 21 rfl rfl)
theorem dX5_matchesOf_46 : decode cX5_matchesOf 46 = .ok (.if_icmp .ge 77, 3) := dk_162 0 77 (dk_at dksX5_matchesOf_2 0 rfl rfl)
theorem dX5_matchesOf_49 : decode cX5_matchesOf 49 = .ok (.iload_n 1, 1) := dk_27 (dk_at dksX5_matchesOf_2 3 rfl rfl)
theorem dX5_matchesOf_50 : decode cX5_matchesOf 50 = .ok (.iload_n 2, 1) := dk_28 (dk_at dksX5_matchesOf_2 4 rfl rfl)
theorem dX5_matchesOf_51 : decode cX5_matchesOf 51 = .ok (.ior, 1) := dk_128 (dk_at dksX5_matchesOf_2 5 rfl rfl)
theorem dX5_matchesOf_52 : decode cX5_matchesOf 52 = .ok (.iload 6, 2) := dk_21 6 (dk_at dksX5_matchesOf_2 6 rfl rfl)
theorem dX5_matchesOf_54 : decode cX5_matchesOf 54 = .ok (.ishr, 1) := dk_122 (dk_at dksX5_matchesOf_2 8 rfl rfl)
theorem dX5_matchesOf_55 : decode cX5_matchesOf 55 = .ok (.iconst 1, 1) := dk_4 (dk_at dksX5_matchesOf_2 9 rfl rfl)
theorem dX5_matchesOf_56 : decode cX5_matchesOf 56 = .ok (.iand, 1) := dk_126 (dk_at dksX5_matchesOf_2 10 rfl rfl)
theorem dX5_matchesOf_57 : decode cX5_matchesOf 57 = .ok (.iconst 1, 1) := dk_4 (dk_at dksX5_matchesOf_2 11 rfl rfl)
theorem dX5_matchesOf_58 : decode cX5_matchesOf 58 = .ok (.if_icmp .ne 6, 3) := dk_160 0 6 (dk_at dksX5_matchesOf_2 12 rfl rfl)
theorem dX5_matchesOf_61 : decode cX5_matchesOf 61 = .ok (.goto 56, 3) := dk_167 0 56 (dk_at dksX5_matchesOf_2 15 rfl rfl)
theorem dX5_matchesOf_64 : decode cX5_matchesOf 64 = .ok (.aload_n 0, 1) := dk_42 (dk_at dksX5_matchesOf_2 18 rfl rfl)
theorem dX5_matchesOf_65 : decode cX5_matchesOf 65 = .ok (.iload_n 3, 1) := dk_29 (dk_at dksX5_matchesOf_2 19 rfl rfl)
theorem dX5_matchesOf_66 : decode cX5_matchesOf 66 = .ok (.invokevirtual 331, 3) := dk_182 1 75 (dk_at dksX5_matchesOf_2 20 rfl rfl)
theorem dX5_matchesOf_69 : decode cX5_matchesOf 69 = .ok (.aload_n 0, 1) := dk_42 (dk_at dksX5_matchesOf_2 23 rfl rfl)
theorem dX5_matchesOf_70 : decode cX5_matchesOf 70 = .ok (.iload 6, 2) := dk_21 6 (dk_at dksX5_matchesOf_3 0 rfl rfl)
theorem dX5_matchesOf_72 : decode cX5_matchesOf 72 = .ok (.invokevirtual 331, 3) := dk_182 1 75 (dk_at dksX5_matchesOf_3 2 rfl rfl)
theorem dX5_matchesOf_75 : decode cX5_matchesOf 75 = .ok (.isub, 1) := dk_100 (dk_at dksX5_matchesOf_3 5 rfl rfl)
theorem dX5_matchesOf_76 : decode cX5_matchesOf 76 = .ok (.istore 7, 2) := dk_54 7 (dk_at dksX5_matchesOf_3 6 rfl rfl)
theorem dX5_matchesOf_78 : decode cX5_matchesOf 78 = .ok (.iload 7, 2) := dk_21 7 (dk_at dksX5_matchesOf_3 8 rfl rfl)
theorem dX5_matchesOf_80 : decode cX5_matchesOf 80 = .ok (.ifCond .ge 9, 3) := dk_156 0 9 (dk_at dksX5_matchesOf_3 10 rfl rfl)
theorem dX5_matchesOf_83 : decode cX5_matchesOf 83 = .ok (.iload 7, 2) := dk_21 7 (dk_at dksX5_matchesOf_3 13 rfl rfl)
theorem dX5_matchesOf_85 : decode cX5_matchesOf 85 = .ok (.ineg, 1) := dk_116 (dk_at dksX5_matchesOf_3 15 rfl rfl)
theorem dX5_matchesOf_86 : decode cX5_matchesOf 86 = .ok (.goto 5, 3) := dk_167 0 5 (dk_at dksX5_matchesOf_3 16 rfl rfl)
theorem dX5_matchesOf_89 : decode cX5_matchesOf 89 = .ok (.iload 7, 2) := dk_21 7 (dk_at dksX5_matchesOf_3 19 rfl rfl)
theorem dX5_matchesOf_91 : decode cX5_matchesOf 91 = .ok (.istore 7, 2) := dk_54 7 (dk_at dksX5_matchesOf_3 21 rfl rfl)
theorem dX5_matchesOf_93 : decode cX5_matchesOf 93 = .ok (.iload 4, 2) := dk_21 4 (dk_at dksX5_matchesOf_4 0 rfl rfl)
theorem dX5_matchesOf_95 : decode cX5_matchesOf 95 = .ok (.iconst (-1), 1) := dk_2 (dk_at dksX5_matchesOf_4 2 rfl rfl)
theorem dX5_matchesOf_96 : decode cX5_matchesOf 96 = .ok (.if_icmp .eq 13, 3) := dk_159 0 13 (dk_at dksX5_matchesOf_4 3 rfl rfl)
theorem dX5_matchesOf_99 : decode cX5_matchesOf 99 = .ok (.iload 7, 2) := dk_21 7 (dk_at dksX5_matchesOf_4 6 rfl rfl)
theorem dX5_matchesOf_101 : decode cX5_matchesOf 101 = .ok (.iload 5, 2) := dk_21 5 (dk_at dksX5_matchesOf_4 8 rfl rfl)
theorem dX5_matchesOf_103 : decode cX5_matchesOf 103 = .ok (.if_icmp .lt 6, 3) := dk_161 0 6 (dk_at dksX5_matchesOf_4 10 rfl rfl)
theorem dX5_matchesOf_106 : decode cX5_matchesOf 106 = .ok (.goto 11, 3) := dk_167 0 11 (dk_at dksX5_matchesOf_4 13 rfl rfl)
theorem dX5_matchesOf_109 : decode cX5_matchesOf 109 = .ok (.iload 6, 2) := dk_21 6 (dk_at dksX5_matchesOf_4 16 rfl rfl)
theorem dX5_matchesOf_111 : decode cX5_matchesOf 111 = .ok (.istore 4, 2) := dk_54 4 (dk_at dksX5_matchesOf_4 18 rfl rfl)
theorem dX5_matchesOf_113 : decode cX5_matchesOf 113 = .ok (.iload 7, 2) := dk_21 7 (dk_at dksX5_matchesOf_4 20 rfl rfl)
theorem dX5_matchesOf_115 : decode cX5_matchesOf 115 = .ok (.istore 5, 2) := dk_54 5 (dk_at dksX5_matchesOf_4 22 rfl rfl)
theorem dX5_matchesOf_117 : decode cX5_matchesOf 117 = .ok (.iinc 6 1, 3) := dk_132 6 1 (dk_at dksX5_matchesOf_5 0 rfl rfl)
theorem dX5_matchesOf_120 : decode cX5_matchesOf 120 = .ok (.goto (-84), 3) := dk_167 255 172 (dk_at dksX5_matchesOf_5 3 rfl rfl)
theorem dX5_matchesOf_123 : decode cX5_matchesOf 123 = .ok (.iload_n 2, 1) := dk_28 (dk_at dksX5_matchesOf_5 6 rfl rfl)
theorem dX5_matchesOf_124 : decode cX5_matchesOf 124 = .ok (.iconst 1, 1) := dk_4 (dk_at dksX5_matchesOf_5 7 rfl rfl)
theorem dX5_matchesOf_125 : decode cX5_matchesOf 125 = .ok (.iload 4, 2) := dk_21 4 (dk_at dksX5_matchesOf_5 8 rfl rfl)
theorem dX5_matchesOf_127 : decode cX5_matchesOf 127 = .ok (.ishl, 1) := dk_120 (dk_at dksX5_matchesOf_5 10 rfl rfl)
theorem dX5_matchesOf_128 : decode cX5_matchesOf 128 = .ok (.ior, 1) := dk_128 (dk_at dksX5_matchesOf_5 11 rfl rfl)
theorem dX5_matchesOf_129 : decode cX5_matchesOf 129 = .ok (.istore_n 2, 1) := dk_61 (dk_at dksX5_matchesOf_5 12 rfl rfl)
theorem dX5_matchesOf_130 : decode cX5_matchesOf 130 = .ok (.iinc 3 1, 3) := dk_132 3 1 (dk_at dksX5_matchesOf_5 13 rfl rfl)
theorem dX5_matchesOf_133 : decode cX5_matchesOf 133 = .ok (.goto (-129), 3) := dk_167 255 127 (dk_at dksX5_matchesOf_5 16 rfl rfl)
theorem dX5_matchesOf_136 : decode cX5_matchesOf 136 = .ok (.iload_n 2, 1) := dk_28 (dk_at dksX5_matchesOf_5 19 rfl rfl)
theorem dX5_matchesOf_137 : decode cX5_matchesOf 137 = .ok (.ireturn, 1) := dk_172 (dk_at dksX5_matchesOf_5 20 rfl rfl)
abbrev cX5_ranked : ByteArray := prog_21_method_85_code
def yX5_ranked : MethodName := ⟨RX5, "ranked", "(I)I"⟩
def dkwX5_ranked_4 : List UInt8 := [28, 172, 132, 2, 1, 167, 255, 176, 2, 172]
abbrev dktX5_ranked_4 : List UInt8 := dkwX5_ranked_4 ++ []
def dkwX5_ranked_3 : List UInt8 := [182, 1, 88, 154, 0, 7, 4, 167, 0, 4, 3, 96, 62, 132, 4, 1, 167, 255, 206, 29, 27, 160, 0, 5]
abbrev dktX5_ranked_3 : List UInt8 := dkwX5_ranked_3 ++ dktX5_ranked_4
def dkwX5_ranked_2 : List UInt8 := [162, 0, 43, 29, 42, 21, 4, 28, 182, 1, 88, 154, 0, 19, 21, 4, 28, 162, 0, 17, 42, 28, 21, 4]
abbrev dktX5_ranked_2 : List UInt8 := dkwX5_ranked_2 ++ dktX5_ranked_3
def dkwX5_ranked_1 : List UInt8 := [17, 1, 221, 46, 162, 0, 74, 3, 62, 3, 54, 4, 21, 4, 42, 180, 0, 17, 17, 1, 221, 46]
abbrev dktX5_ranked_1 : List UInt8 := dkwX5_ranked_1 ++ dktX5_ranked_2
def dkwX5_ranked_0 : List UInt8 := [42, 3, 181, 0, 1, 42, 27, 182, 1, 60, 154, 0, 5, 2, 172, 3, 61, 28, 42, 180, 0, 17]
abbrev dktX5_ranked_0 : List UInt8 := dkwX5_ranked_0 ++ dktX5_ranked_1
theorem dksX5_ranked_0 : cX5_ranked.data.toList.drop 0 = dktX5_ranked_0 := by decide +kernel
theorem dksX5_ranked_1 : cX5_ranked.data.toList.drop 22 = dktX5_ranked_1 := dk_seg dksX5_ranked_0 22 rfl rfl
theorem dksX5_ranked_2 : cX5_ranked.data.toList.drop 44 = dktX5_ranked_2 := dk_seg dksX5_ranked_1 22 rfl rfl
theorem dksX5_ranked_3 : cX5_ranked.data.toList.drop 68 = dktX5_ranked_3 := dk_seg dksX5_ranked_2 24 rfl rfl
theorem dksX5_ranked_4 : cX5_ranked.data.toList.drop 92 = dktX5_ranked_4 := dk_seg dksX5_ranked_3 24 rfl rfl
theorem dX5_ranked_0 : decode cX5_ranked 0 = .ok (.aload_n 0, 1) := dk_42 (dk_at dksX5_ranked_0 0 rfl rfl)
theorem dX5_ranked_1 : decode cX5_ranked 1 = .ok (.iconst 0, 1) := dk_3 (dk_at dksX5_ranked_0 1 rfl rfl)
theorem dX5_ranked_2 : decode cX5_ranked 2 = .ok (.putfield 1, 3) := dk_181 0 1 (dk_at dksX5_ranked_0 2 rfl rfl)
theorem dX5_ranked_5 : decode cX5_ranked 5 = .ok (.aload_n 0, 1) := dk_42 (dk_at dksX5_ranked_0 5 rfl rfl)
theorem dX5_ranked_6 : decode cX5_ranked 6 = .ok (.iload_n 1, 1) := dk_27 (dk_at dksX5_ranked_0 6 rfl rfl)
theorem dX5_ranked_7 : decode cX5_ranked 7 = .ok (.invokevirtual 316, 3) := dk_182 1 60 (dk_at dksX5_ranked_0 7 rfl rfl)
theorem dX5_ranked_10 : decode cX5_ranked 10 = .ok (.ifCond .ne 5, 3) := dk_154 0 5 (dk_at dksX5_ranked_0 10 rfl rfl)
theorem dX5_ranked_13 : decode cX5_ranked 13 = .ok (.iconst (-1), 1) := dk_2 (dk_at dksX5_ranked_0 13 rfl rfl)
theorem dX5_ranked_14 : decode cX5_ranked 14 = .ok (.ireturn, 1) := dk_172 (dk_at dksX5_ranked_0 14 rfl rfl)
theorem dX5_ranked_15 : decode cX5_ranked 15 = .ok (.iconst 0, 1) := dk_3 (dk_at dksX5_ranked_0 15 rfl rfl)
theorem dX5_ranked_16 : decode cX5_ranked 16 = .ok (.istore_n 2, 1) := dk_61 (dk_at dksX5_ranked_0 16 rfl rfl)
theorem dX5_ranked_17 : decode cX5_ranked 17 = .ok (.iload_n 2, 1) := dk_28 (dk_at dksX5_ranked_0 17 rfl rfl)
theorem dX5_ranked_18 : decode cX5_ranked 18 = .ok (.aload_n 0, 1) := dk_42 (dk_at dksX5_ranked_0 18 rfl rfl)
theorem dX5_ranked_19 : decode cX5_ranked 19 = .ok (.getfield 17, 3) := dk_180 0 17 (dk_at dksX5_ranked_0 19 rfl rfl)
theorem dX5_ranked_22 : decode cX5_ranked 22 = .ok (.sipush 477, 3) := dk_17 1 221 (dk_at dksX5_ranked_1 0 rfl rfl)
theorem dX5_ranked_25 : decode cX5_ranked 25 = .ok (.iaload, 1) := dk_46 (dk_at dksX5_ranked_1 3 rfl rfl)
theorem dX5_ranked_26 : decode cX5_ranked 26 = .ok (.if_icmp .ge 74, 3) := dk_162 0 74 (dk_at dksX5_ranked_1 4 rfl rfl)
theorem dX5_ranked_29 : decode cX5_ranked 29 = .ok (.iconst 0, 1) := dk_3 (dk_at dksX5_ranked_1 7 rfl rfl)
theorem dX5_ranked_30 : decode cX5_ranked 30 = .ok (.istore_n 3, 1) := dk_62 (dk_at dksX5_ranked_1 8 rfl rfl)
theorem dX5_ranked_31 : decode cX5_ranked 31 = .ok (.iconst 0, 1) := dk_3 (dk_at dksX5_ranked_1 9 rfl rfl)
theorem dX5_ranked_32 : decode cX5_ranked 32 = .ok (.istore 4, 2) := dk_54 4 (dk_at dksX5_ranked_1 10 rfl rfl)
theorem dX5_ranked_34 : decode cX5_ranked 34 = .ok (.iload 4, 2) := dk_21 4 (dk_at dksX5_ranked_1 12 rfl rfl)
theorem dX5_ranked_36 : decode cX5_ranked 36 = .ok (.aload_n 0, 1) := dk_42 (dk_at dksX5_ranked_1 14 rfl rfl)
theorem dX5_ranked_37 : decode cX5_ranked 37 = .ok (.getfield 17, 3) := dk_180 0 17 (dk_at dksX5_ranked_1 15 rfl rfl)
theorem dX5_ranked_40 : decode cX5_ranked 40 = .ok (.sipush 477, 3) := dk_17 1 221 (dk_at dksX5_ranked_1 18 rfl rfl)
theorem dX5_ranked_43 : decode cX5_ranked 43 = .ok (.iaload, 1) := dk_46 (dk_at dksX5_ranked_1 21 rfl rfl)
theorem dX5_ranked_44 : decode cX5_ranked 44 = .ok (.if_icmp .ge 43, 3) := dk_162 0 43 (dk_at dksX5_ranked_2 0 rfl rfl)
theorem dX5_ranked_47 : decode cX5_ranked 47 = .ok (.iload_n 3, 1) := dk_29 (dk_at dksX5_ranked_2 3 rfl rfl)
theorem dX5_ranked_48 : decode cX5_ranked 48 = .ok (.aload_n 0, 1) := dk_42 (dk_at dksX5_ranked_2 4 rfl rfl)
theorem dX5_ranked_49 : decode cX5_ranked 49 = .ok (.iload 4, 2) := dk_21 4 (dk_at dksX5_ranked_2 5 rfl rfl)
theorem dX5_ranked_51 : decode cX5_ranked 51 = .ok (.iload_n 2, 1) := dk_28 (dk_at dksX5_ranked_2 7 rfl rfl)
theorem dX5_ranked_52 : decode cX5_ranked 52 = .ok (.invokevirtual 344, 3) := dk_182 1 88 (dk_at dksX5_ranked_2 8 rfl rfl)
theorem dX5_ranked_55 : decode cX5_ranked 55 = .ok (.ifCond .ne 19, 3) := dk_154 0 19 (dk_at dksX5_ranked_2 11 rfl rfl)
theorem dX5_ranked_58 : decode cX5_ranked 58 = .ok (.iload 4, 2) := dk_21 4 (dk_at dksX5_ranked_2 14 rfl rfl)
theorem dX5_ranked_60 : decode cX5_ranked 60 = .ok (.iload_n 2, 1) := dk_28 (dk_at dksX5_ranked_2 16 rfl rfl)
theorem dX5_ranked_61 : decode cX5_ranked 61 = .ok (.if_icmp .ge 17, 3) := dk_162 0 17 (dk_at dksX5_ranked_2 17 rfl rfl)
theorem dX5_ranked_64 : decode cX5_ranked 64 = .ok (.aload_n 0, 1) := dk_42 (dk_at dksX5_ranked_2 20 rfl rfl)
theorem dX5_ranked_65 : decode cX5_ranked 65 = .ok (.iload_n 2, 1) := dk_28 (dk_at dksX5_ranked_2 21 rfl rfl)
theorem dX5_ranked_66 : decode cX5_ranked 66 = .ok (.iload 4, 2) := dk_21 4 (dk_at dksX5_ranked_2 22 rfl rfl)
theorem dX5_ranked_68 : decode cX5_ranked 68 = .ok (.invokevirtual 344, 3) := dk_182 1 88 (dk_at dksX5_ranked_3 0 rfl rfl)
theorem dX5_ranked_71 : decode cX5_ranked 71 = .ok (.ifCond .ne 7, 3) := dk_154 0 7 (dk_at dksX5_ranked_3 3 rfl rfl)
theorem dX5_ranked_74 : decode cX5_ranked 74 = .ok (.iconst 1, 1) := dk_4 (dk_at dksX5_ranked_3 6 rfl rfl)
theorem dX5_ranked_75 : decode cX5_ranked 75 = .ok (.goto 4, 3) := dk_167 0 4 (dk_at dksX5_ranked_3 7 rfl rfl)
theorem dX5_ranked_78 : decode cX5_ranked 78 = .ok (.iconst 0, 1) := dk_3 (dk_at dksX5_ranked_3 10 rfl rfl)
theorem dX5_ranked_79 : decode cX5_ranked 79 = .ok (.iadd, 1) := dk_96 (dk_at dksX5_ranked_3 11 rfl rfl)
theorem dX5_ranked_80 : decode cX5_ranked 80 = .ok (.istore_n 3, 1) := dk_62 (dk_at dksX5_ranked_3 12 rfl rfl)
theorem dX5_ranked_81 : decode cX5_ranked 81 = .ok (.iinc 4 1, 3) := dk_132 4 1 (dk_at dksX5_ranked_3 13 rfl rfl)
theorem dX5_ranked_84 : decode cX5_ranked 84 = .ok (.goto (-50), 3) := dk_167 255 206 (dk_at dksX5_ranked_3 16 rfl rfl)
theorem dX5_ranked_87 : decode cX5_ranked 87 = .ok (.iload_n 3, 1) := dk_29 (dk_at dksX5_ranked_3 19 rfl rfl)
theorem dX5_ranked_88 : decode cX5_ranked 88 = .ok (.iload_n 1, 1) := dk_27 (dk_at dksX5_ranked_3 20 rfl rfl)
theorem dX5_ranked_89 : decode cX5_ranked 89 = .ok (.if_icmp .ne 5, 3) := dk_160 0 5 (dk_at dksX5_ranked_3 21 rfl rfl)
theorem dX5_ranked_92 : decode cX5_ranked 92 = .ok (.iload_n 2, 1) := dk_28 (dk_at dksX5_ranked_4 0 rfl rfl)
theorem dX5_ranked_93 : decode cX5_ranked 93 = .ok (.ireturn, 1) := dk_172 (dk_at dksX5_ranked_4 1 rfl rfl)
theorem dX5_ranked_94 : decode cX5_ranked 94 = .ok (.iinc 2 1, 3) := dk_132 2 1 (dk_at dksX5_ranked_4 2 rfl rfl)
theorem dX5_ranked_97 : decode cX5_ranked 97 = .ok (.goto (-80), 3) := dk_167 255 176 (dk_at dksX5_ranked_4 5 rfl rfl)
theorem dX5_ranked_100 : decode cX5_ranked 100 = .ok (.iconst (-1), 1) := dk_2 (dk_at dksX5_ranked_4 8 rfl rfl)
theorem dX5_ranked_101 : decode cX5_ranked 101 = .ok (.ireturn, 1) := dk_172 (dk_at dksX5_ranked_4 9 rfl rfl)
abbrev cX5_isWorse : ByteArray := prog_21_method_84_code
def yX5_isWorse : MethodName := ⟨RX5, "isWorse", "(II)Z"⟩
def dkwX5_isWorse_5 : List UInt8 := [167, 0, 4, 3, 172]
abbrev dktX5_isWorse_5 : List UInt8 := dkwX5_isWorse_5 ++ []
def dkwX5_isWorse_4 : List UInt8 := [133, 33, 9, 148, 154, 0, 7, 10, 167, 0, 4, 33, 105, 55, 9, 22, 7, 22, 9, 148, 158, 0, 7, 4]
abbrev dktX5_isWorse_4 : List UInt8 := dkwX5_isWorse_4 ++ dktX5_isWorse_5
def dkwX5_isWorse_3 : List UInt8 := [167, 0, 5, 22, 5, 105, 55, 7, 22, 5, 9, 148, 154, 0, 7, 9, 167, 0, 21, 42, 28, 182, 1, 75]
abbrev dktX5_isWorse_3 : List UInt8 := dkwX5_isWorse_3 ++ dktX5_isWorse_4
def dkwX5_isWorse_2 : List UInt8 := [9, 148, 154, 0, 7, 9, 167, 0, 23, 42, 27, 182, 1, 75, 133, 22, 5, 9, 148, 154, 0, 7, 10]
abbrev dktX5_isWorse_2 : List UInt8 := dkwX5_isWorse_2 ++ dktX5_isWorse_3
def dkwX5_isWorse_1 : List UInt8 := [180, 0, 17, 17, 1, 234, 28, 96, 46, 42, 180, 0, 17, 17, 1, 246, 28, 96, 46, 96, 133, 55, 5, 33]
abbrev dktX5_isWorse_1 : List UInt8 := dkwX5_isWorse_1 ++ dktX5_isWorse_2
def dkwX5_isWorse_0 : List UInt8 := [42, 180, 0, 17, 17, 1, 234, 27, 96, 46, 42, 180, 0, 17, 17, 1, 246, 27, 96, 46, 96, 133, 66, 42]
abbrev dktX5_isWorse_0 : List UInt8 := dkwX5_isWorse_0 ++ dktX5_isWorse_1
theorem dksX5_isWorse_0 : cX5_isWorse.data.toList.drop 0 = dktX5_isWorse_0 := by decide +kernel
theorem dksX5_isWorse_1 : cX5_isWorse.data.toList.drop 24 = dktX5_isWorse_1 := dk_seg dksX5_isWorse_0 24 rfl rfl
theorem dksX5_isWorse_2 : cX5_isWorse.data.toList.drop 48 = dktX5_isWorse_2 := dk_seg dksX5_isWorse_1 24 rfl rfl
theorem dksX5_isWorse_3 : cX5_isWorse.data.toList.drop 71 = dktX5_isWorse_3 := dk_seg dksX5_isWorse_2 23 rfl rfl
theorem dksX5_isWorse_4 : cX5_isWorse.data.toList.drop 95 = dktX5_isWorse_4 := dk_seg dksX5_isWorse_3 24 rfl rfl
theorem dksX5_isWorse_5 : cX5_isWorse.data.toList.drop 119 = dktX5_isWorse_5 := dk_seg dksX5_isWorse_4 24 rfl rfl
theorem dX5_isWorse_0 : decode cX5_isWorse 0 = .ok (.aload_n 0, 1) := dk_42 (dk_at dksX5_isWorse_0 0 rfl rfl)
theorem dX5_isWorse_1 : decode cX5_isWorse 1 = .ok (.getfield 17, 3) := dk_180 0 17 (dk_at dksX5_isWorse_0 1 rfl rfl)
theorem dX5_isWorse_4 : decode cX5_isWorse 4 = .ok (.sipush 490, 3) := dk_17 1 234 (dk_at dksX5_isWorse_0 4 rfl rfl)
theorem dX5_isWorse_7 : decode cX5_isWorse 7 = .ok (.iload_n 1, 1) := dk_27 (dk_at dksX5_isWorse_0 7 rfl rfl)
theorem dX5_isWorse_8 : decode cX5_isWorse 8 = .ok (.iadd, 1) := dk_96 (dk_at dksX5_isWorse_0 8 rfl rfl)
theorem dX5_isWorse_9 : decode cX5_isWorse 9 = .ok (.iaload, 1) := dk_46 (dk_at dksX5_isWorse_0 9 rfl rfl)
theorem dX5_isWorse_10 : decode cX5_isWorse 10 = .ok (.aload_n 0, 1) := dk_42 (dk_at dksX5_isWorse_0 10 rfl rfl)
theorem dX5_isWorse_11 : decode cX5_isWorse 11 = .ok (.getfield 17, 3) := dk_180 0 17 (dk_at dksX5_isWorse_0 11 rfl rfl)
theorem dX5_isWorse_14 : decode cX5_isWorse 14 = .ok (.sipush 502, 3) := dk_17 1 246 (dk_at dksX5_isWorse_0 14 rfl rfl)
theorem dX5_isWorse_17 : decode cX5_isWorse 17 = .ok (.iload_n 1, 1) := dk_27 (dk_at dksX5_isWorse_0 17 rfl rfl)
theorem dX5_isWorse_18 : decode cX5_isWorse 18 = .ok (.iadd, 1) := dk_96 (dk_at dksX5_isWorse_0 18 rfl rfl)
theorem dX5_isWorse_19 : decode cX5_isWorse 19 = .ok (.iaload, 1) := dk_46 (dk_at dksX5_isWorse_0 19 rfl rfl)
theorem dX5_isWorse_20 : decode cX5_isWorse 20 = .ok (.iadd, 1) := dk_96 (dk_at dksX5_isWorse_0 20 rfl rfl)
theorem dX5_isWorse_21 : decode cX5_isWorse 21 = .ok (.i2l, 1) := dk_133 (dk_at dksX5_isWorse_0 21 rfl rfl)
theorem dX5_isWorse_22 : decode cX5_isWorse 22 = .ok (.lstore_n 3, 1) := dk_66 (dk_at dksX5_isWorse_0 22 rfl rfl)
theorem dX5_isWorse_23 : decode cX5_isWorse 23 = .ok (.aload_n 0, 1) := dk_42 (dk_at dksX5_isWorse_0 23 rfl rfl)
theorem dX5_isWorse_24 : decode cX5_isWorse 24 = .ok (.getfield 17, 3) := dk_180 0 17 (dk_at dksX5_isWorse_1 0 rfl rfl)
theorem dX5_isWorse_27 : decode cX5_isWorse 27 = .ok (.sipush 490, 3) := dk_17 1 234 (dk_at dksX5_isWorse_1 3 rfl rfl)
theorem dX5_isWorse_30 : decode cX5_isWorse 30 = .ok (.iload_n 2, 1) := dk_28 (dk_at dksX5_isWorse_1 6 rfl rfl)
theorem dX5_isWorse_31 : decode cX5_isWorse 31 = .ok (.iadd, 1) := dk_96 (dk_at dksX5_isWorse_1 7 rfl rfl)
theorem dX5_isWorse_32 : decode cX5_isWorse 32 = .ok (.iaload, 1) := dk_46 (dk_at dksX5_isWorse_1 8 rfl rfl)
theorem dX5_isWorse_33 : decode cX5_isWorse 33 = .ok (.aload_n 0, 1) := dk_42 (dk_at dksX5_isWorse_1 9 rfl rfl)
theorem dX5_isWorse_34 : decode cX5_isWorse 34 = .ok (.getfield 17, 3) := dk_180 0 17 (dk_at dksX5_isWorse_1 10 rfl rfl)
theorem dX5_isWorse_37 : decode cX5_isWorse 37 = .ok (.sipush 502, 3) := dk_17 1 246 (dk_at dksX5_isWorse_1 13 rfl rfl)
theorem dX5_isWorse_40 : decode cX5_isWorse 40 = .ok (.iload_n 2, 1) := dk_28 (dk_at dksX5_isWorse_1 16 rfl rfl)
theorem dX5_isWorse_41 : decode cX5_isWorse 41 = .ok (.iadd, 1) := dk_96 (dk_at dksX5_isWorse_1 17 rfl rfl)
theorem dX5_isWorse_42 : decode cX5_isWorse 42 = .ok (.iaload, 1) := dk_46 (dk_at dksX5_isWorse_1 18 rfl rfl)
theorem dX5_isWorse_43 : decode cX5_isWorse 43 = .ok (.iadd, 1) := dk_96 (dk_at dksX5_isWorse_1 19 rfl rfl)
theorem dX5_isWorse_44 : decode cX5_isWorse 44 = .ok (.i2l, 1) := dk_133 (dk_at dksX5_isWorse_1 20 rfl rfl)
theorem dX5_isWorse_45 : decode cX5_isWorse 45 = .ok (.lstore 5, 2) := dk_55 5 (dk_at dksX5_isWorse_1 21 rfl rfl)
theorem dX5_isWorse_47 : decode cX5_isWorse 47 = .ok (.lload_n 3, 1) := dk_33 (dk_at dksX5_isWorse_1 23 rfl rfl)
theorem dX5_isWorse_48 : decode cX5_isWorse 48 = .ok (.lconst 0, 1) := dk_9 (dk_at dksX5_isWorse_2 0 rfl rfl)
theorem dX5_isWorse_49 : decode cX5_isWorse 49 = .ok (.lcmp, 1) := dk_148 (dk_at dksX5_isWorse_2 1 rfl rfl)
theorem dX5_isWorse_50 : decode cX5_isWorse 50 = .ok (.ifCond .ne 7, 3) := dk_154 0 7 (dk_at dksX5_isWorse_2 2 rfl rfl)
theorem dX5_isWorse_53 : decode cX5_isWorse 53 = .ok (.lconst 0, 1) := dk_9 (dk_at dksX5_isWorse_2 5 rfl rfl)
theorem dX5_isWorse_54 : decode cX5_isWorse 54 = .ok (.goto 23, 3) := dk_167 0 23 (dk_at dksX5_isWorse_2 6 rfl rfl)
theorem dX5_isWorse_57 : decode cX5_isWorse 57 = .ok (.aload_n 0, 1) := dk_42 (dk_at dksX5_isWorse_2 9 rfl rfl)
theorem dX5_isWorse_58 : decode cX5_isWorse 58 = .ok (.iload_n 1, 1) := dk_27 (dk_at dksX5_isWorse_2 10 rfl rfl)
theorem dX5_isWorse_59 : decode cX5_isWorse 59 = .ok (.invokevirtual 331, 3) := dk_182 1 75 (dk_at dksX5_isWorse_2 11 rfl rfl)
theorem dX5_isWorse_62 : decode cX5_isWorse 62 = .ok (.i2l, 1) := dk_133 (dk_at dksX5_isWorse_2 14 rfl rfl)
theorem dX5_isWorse_63 : decode cX5_isWorse 63 = .ok (.lload 5, 2) := dk_22 5 (dk_at dksX5_isWorse_2 15 rfl rfl)
theorem dX5_isWorse_65 : decode cX5_isWorse 65 = .ok (.lconst 0, 1) := dk_9 (dk_at dksX5_isWorse_2 17 rfl rfl)
theorem dX5_isWorse_66 : decode cX5_isWorse 66 = .ok (.lcmp, 1) := dk_148 (dk_at dksX5_isWorse_2 18 rfl rfl)
theorem dX5_isWorse_67 : decode cX5_isWorse 67 = .ok (.ifCond .ne 7, 3) := dk_154 0 7 (dk_at dksX5_isWorse_2 19 rfl rfl)
theorem dX5_isWorse_70 : decode cX5_isWorse 70 = .ok (.lconst 1, 1) := dk_10 (dk_at dksX5_isWorse_2 22 rfl rfl)
theorem dX5_isWorse_71 : decode cX5_isWorse 71 = .ok (.goto 5, 3) := dk_167 0 5 (dk_at dksX5_isWorse_3 0 rfl rfl)
theorem dX5_isWorse_74 : decode cX5_isWorse 74 = .ok (.lload 5, 2) := dk_22 5 (dk_at dksX5_isWorse_3 3 rfl rfl)
theorem dX5_isWorse_76 : decode cX5_isWorse 76 = .ok (.lmul, 1) := dk_105 (dk_at dksX5_isWorse_3 5 rfl rfl)
theorem dX5_isWorse_77 : decode cX5_isWorse 77 = .ok (.lstore 7, 2) := dk_55 7 (dk_at dksX5_isWorse_3 6 rfl rfl)
theorem dX5_isWorse_79 : decode cX5_isWorse 79 = .ok (.lload 5, 2) := dk_22 5 (dk_at dksX5_isWorse_3 8 rfl rfl)
theorem dX5_isWorse_81 : decode cX5_isWorse 81 = .ok (.lconst 0, 1) := dk_9 (dk_at dksX5_isWorse_3 10 rfl rfl)
theorem dX5_isWorse_82 : decode cX5_isWorse 82 = .ok (.lcmp, 1) := dk_148 (dk_at dksX5_isWorse_3 11 rfl rfl)
theorem dX5_isWorse_83 : decode cX5_isWorse 83 = .ok (.ifCond .ne 7, 3) := dk_154 0 7 (dk_at dksX5_isWorse_3 12 rfl rfl)
theorem dX5_isWorse_86 : decode cX5_isWorse 86 = .ok (.lconst 0, 1) := dk_9 (dk_at dksX5_isWorse_3 15 rfl rfl)
theorem dX5_isWorse_87 : decode cX5_isWorse 87 = .ok (.goto 21, 3) := dk_167 0 21 (dk_at dksX5_isWorse_3 16 rfl rfl)
theorem dX5_isWorse_90 : decode cX5_isWorse 90 = .ok (.aload_n 0, 1) := dk_42 (dk_at dksX5_isWorse_3 19 rfl rfl)
theorem dX5_isWorse_91 : decode cX5_isWorse 91 = .ok (.iload_n 2, 1) := dk_28 (dk_at dksX5_isWorse_3 20 rfl rfl)
theorem dX5_isWorse_92 : decode cX5_isWorse 92 = .ok (.invokevirtual 331, 3) := dk_182 1 75 (dk_at dksX5_isWorse_3 21 rfl rfl)
theorem dX5_isWorse_95 : decode cX5_isWorse 95 = .ok (.i2l, 1) := dk_133 (dk_at dksX5_isWorse_4 0 rfl rfl)
theorem dX5_isWorse_96 : decode cX5_isWorse 96 = .ok (.lload_n 3, 1) := dk_33 (dk_at dksX5_isWorse_4 1 rfl rfl)
theorem dX5_isWorse_97 : decode cX5_isWorse 97 = .ok (.lconst 0, 1) := dk_9 (dk_at dksX5_isWorse_4 2 rfl rfl)
theorem dX5_isWorse_98 : decode cX5_isWorse 98 = .ok (.lcmp, 1) := dk_148 (dk_at dksX5_isWorse_4 3 rfl rfl)
theorem dX5_isWorse_99 : decode cX5_isWorse 99 = .ok (.ifCond .ne 7, 3) := dk_154 0 7 (dk_at dksX5_isWorse_4 4 rfl rfl)
theorem dX5_isWorse_102 : decode cX5_isWorse 102 = .ok (.lconst 1, 1) := dk_10 (dk_at dksX5_isWorse_4 7 rfl rfl)
theorem dX5_isWorse_103 : decode cX5_isWorse 103 = .ok (.goto 4, 3) := dk_167 0 4 (dk_at dksX5_isWorse_4 8 rfl rfl)
theorem dX5_isWorse_106 : decode cX5_isWorse 106 = .ok (.lload_n 3, 1) := dk_33 (dk_at dksX5_isWorse_4 11 rfl rfl)
theorem dX5_isWorse_107 : decode cX5_isWorse 107 = .ok (.lmul, 1) := dk_105 (dk_at dksX5_isWorse_4 12 rfl rfl)
theorem dX5_isWorse_108 : decode cX5_isWorse 108 = .ok (.lstore 9, 2) := dk_55 9 (dk_at dksX5_isWorse_4 13 rfl rfl)
theorem dX5_isWorse_110 : decode cX5_isWorse 110 = .ok (.lload 7, 2) := dk_22 7 (dk_at dksX5_isWorse_4 15 rfl rfl)
theorem dX5_isWorse_112 : decode cX5_isWorse 112 = .ok (.lload 9, 2) := dk_22 9 (dk_at dksX5_isWorse_4 17 rfl rfl)
theorem dX5_isWorse_114 : decode cX5_isWorse 114 = .ok (.lcmp, 1) := dk_148 (dk_at dksX5_isWorse_4 19 rfl rfl)
theorem dX5_isWorse_115 : decode cX5_isWorse 115 = .ok (.ifCond .le 7, 3) := dk_158 0 7 (dk_at dksX5_isWorse_4 20 rfl rfl)
theorem dX5_isWorse_118 : decode cX5_isWorse 118 = .ok (.iconst 1, 1) := dk_4 (dk_at dksX5_isWorse_4 23 rfl rfl)
theorem dX5_isWorse_119 : decode cX5_isWorse 119 = .ok (.goto 4, 3) := dk_167 0 4 (dk_at dksX5_isWorse_5 0 rfl rfl)
theorem dX5_isWorse_122 : decode cX5_isWorse 122 = .ok (.iconst 0, 1) := dk_3 (dk_at dksX5_isWorse_5 3 rfl rfl)
theorem dX5_isWorse_123 : decode cX5_isWorse 123 = .ok (.ireturn, 1) := dk_172 (dk_at dksX5_isWorse_5 4 rfl rfl)
abbrev cX5_measure : ByteArray := prog_21_method_86_code
def yX5_measure : MethodName := ⟨RX5, "measure", "(III)I"⟩
def dkwX5_measure_3 : List UInt8 := [17, 2, 42, 27, 96, 29, 79, 3, 172]
abbrev dktX5_measure_3 : List UInt8 := dkwX5_measure_3 ++ []
def dkwX5_measure_2 : List UInt8 := [42, 16, 253, 182, 0, 89, 172, 42, 180, 0, 17, 17, 2, 38, 27, 96, 28, 79, 42, 180, 0, 17]
abbrev dktX5_measure_2 : List UInt8 := dkwX5_measure_2 ++ dktX5_measure_3
def dkwX5_measure_1 : List UInt8 := [28, 133, 10, 20, 1, 25, 184, 0, 152, 153, 0, 15, 29, 133, 9, 20, 1, 30, 184, 0, 152, 154, 0, 10]
abbrev dktX5_measure_1 : List UInt8 := dkwX5_measure_1 ++ dktX5_measure_2
def dkwX5_measure_0 : List UInt8 := [42, 3, 181, 0, 1, 27, 133, 9, 20, 0, 213, 184, 0, 152, 154, 0, 10, 42, 16, 254, 182, 0, 89, 172]
abbrev dktX5_measure_0 : List UInt8 := dkwX5_measure_0 ++ dktX5_measure_1
theorem dksX5_measure_0 : cX5_measure.data.toList.drop 0 = dktX5_measure_0 := by decide +kernel
theorem dksX5_measure_1 : cX5_measure.data.toList.drop 24 = dktX5_measure_1 := dk_seg dksX5_measure_0 24 rfl rfl
theorem dksX5_measure_2 : cX5_measure.data.toList.drop 48 = dktX5_measure_2 := dk_seg dksX5_measure_1 24 rfl rfl
theorem dksX5_measure_3 : cX5_measure.data.toList.drop 70 = dktX5_measure_3 := dk_seg dksX5_measure_2 22 rfl rfl
theorem dX5_measure_0 : decode cX5_measure 0 = .ok (.aload_n 0, 1) := dk_42 (dk_at dksX5_measure_0 0 rfl rfl)
theorem dX5_measure_1 : decode cX5_measure 1 = .ok (.iconst 0, 1) := dk_3 (dk_at dksX5_measure_0 1 rfl rfl)
theorem dX5_measure_2 : decode cX5_measure 2 = .ok (.putfield 1, 3) := dk_181 0 1 (dk_at dksX5_measure_0 2 rfl rfl)
theorem dX5_measure_5 : decode cX5_measure 5 = .ok (.iload_n 1, 1) := dk_27 (dk_at dksX5_measure_0 5 rfl rfl)
theorem dX5_measure_6 : decode cX5_measure 6 = .ok (.i2l, 1) := dk_133 (dk_at dksX5_measure_0 6 rfl rfl)
theorem dX5_measure_7 : decode cX5_measure 7 = .ok (.lconst 0, 1) := dk_9 (dk_at dksX5_measure_0 7 rfl rfl)
theorem dX5_measure_8 : decode cX5_measure 8 = .ok (.ldc2_w 213, 3) := dk_20 0 213 (dk_at dksX5_measure_0 8 rfl rfl)
theorem dX5_measure_11 : decode cX5_measure 11 = .ok (.invokestatic 152, 3) := dk_184 0 152 (dk_at dksX5_measure_0 11 rfl rfl)
theorem dX5_measure_14 : decode cX5_measure 14 = .ok (.ifCond .ne 10, 3) := dk_154 0 10 (dk_at dksX5_measure_0 14 rfl rfl)
theorem dX5_measure_17 : decode cX5_measure 17 = .ok (.aload_n 0, 1) := dk_42 (dk_at dksX5_measure_0 17 rfl rfl)
theorem dX5_measure_18 : decode cX5_measure 18 = .ok (.bipush (-2), 2) := dk_16 254 (dk_at dksX5_measure_0 18 rfl rfl)
theorem dX5_measure_20 : decode cX5_measure 20 = .ok (.invokevirtual 89, 3) := dk_182 0 89 (dk_at dksX5_measure_0 20 rfl rfl)
theorem dX5_measure_23 : decode cX5_measure 23 = .ok (.ireturn, 1) := dk_172 (dk_at dksX5_measure_0 23 rfl rfl)
theorem dX5_measure_24 : decode cX5_measure 24 = .ok (.iload_n 2, 1) := dk_28 (dk_at dksX5_measure_1 0 rfl rfl)
theorem dX5_measure_25 : decode cX5_measure 25 = .ok (.i2l, 1) := dk_133 (dk_at dksX5_measure_1 1 rfl rfl)
theorem dX5_measure_26 : decode cX5_measure 26 = .ok (.lconst 1, 1) := dk_10 (dk_at dksX5_measure_1 2 rfl rfl)
theorem dX5_measure_27 : decode cX5_measure 27 = .ok (.ldc2_w 281, 3) := dk_20 1 25 (dk_at dksX5_measure_1 3 rfl rfl)
theorem dX5_measure_30 : decode cX5_measure 30 = .ok (.invokestatic 152, 3) := dk_184 0 152 (dk_at dksX5_measure_1 6 rfl rfl)
theorem dX5_measure_33 : decode cX5_measure 33 = .ok (.ifCond .eq 15, 3) := dk_153 0 15 (dk_at dksX5_measure_1 9 rfl rfl)
theorem dX5_measure_36 : decode cX5_measure 36 = .ok (.iload_n 3, 1) := dk_29 (dk_at dksX5_measure_1 12 rfl rfl)
theorem dX5_measure_37 : decode cX5_measure 37 = .ok (.i2l, 1) := dk_133 (dk_at dksX5_measure_1 13 rfl rfl)
theorem dX5_measure_38 : decode cX5_measure 38 = .ok (.lconst 0, 1) := dk_9 (dk_at dksX5_measure_1 14 rfl rfl)
theorem dX5_measure_39 : decode cX5_measure 39 = .ok (.ldc2_w 286, 3) := dk_20 1 30 (dk_at dksX5_measure_1 15 rfl rfl)
theorem dX5_measure_42 : decode cX5_measure 42 = .ok (.invokestatic 152, 3) := dk_184 0 152 (dk_at dksX5_measure_1 18 rfl rfl)
theorem dX5_measure_45 : decode cX5_measure 45 = .ok (.ifCond .ne 10, 3) := dk_154 0 10 (dk_at dksX5_measure_1 21 rfl rfl)
theorem dX5_measure_48 : decode cX5_measure 48 = .ok (.aload_n 0, 1) := dk_42 (dk_at dksX5_measure_2 0 rfl rfl)
theorem dX5_measure_49 : decode cX5_measure 49 = .ok (.bipush (-3), 2) := dk_16 253 (dk_at dksX5_measure_2 1 rfl rfl)
theorem dX5_measure_51 : decode cX5_measure 51 = .ok (.invokevirtual 89, 3) := dk_182 0 89 (dk_at dksX5_measure_2 3 rfl rfl)
theorem dX5_measure_54 : decode cX5_measure 54 = .ok (.ireturn, 1) := dk_172 (dk_at dksX5_measure_2 6 rfl rfl)
theorem dX5_measure_55 : decode cX5_measure 55 = .ok (.aload_n 0, 1) := dk_42 (dk_at dksX5_measure_2 7 rfl rfl)
theorem dX5_measure_56 : decode cX5_measure 56 = .ok (.getfield 17, 3) := dk_180 0 17 (dk_at dksX5_measure_2 8 rfl rfl)
theorem dX5_measure_59 : decode cX5_measure 59 = .ok (.sipush 550, 3) := dk_17 2 38 (dk_at dksX5_measure_2 11 rfl rfl)
theorem dX5_measure_62 : decode cX5_measure 62 = .ok (.iload_n 1, 1) := dk_27 (dk_at dksX5_measure_2 14 rfl rfl)
theorem dX5_measure_63 : decode cX5_measure 63 = .ok (.iadd, 1) := dk_96 (dk_at dksX5_measure_2 15 rfl rfl)
theorem dX5_measure_64 : decode cX5_measure 64 = .ok (.iload_n 2, 1) := dk_28 (dk_at dksX5_measure_2 16 rfl rfl)
theorem dX5_measure_65 : decode cX5_measure 65 = .ok (.iastore, 1) := dk_79 (dk_at dksX5_measure_2 17 rfl rfl)
theorem dX5_measure_66 : decode cX5_measure 66 = .ok (.aload_n 0, 1) := dk_42 (dk_at dksX5_measure_2 18 rfl rfl)
theorem dX5_measure_67 : decode cX5_measure 67 = .ok (.getfield 17, 3) := dk_180 0 17 (dk_at dksX5_measure_2 19 rfl rfl)
theorem dX5_measure_70 : decode cX5_measure 70 = .ok (.sipush 554, 3) := dk_17 2 42 (dk_at dksX5_measure_3 0 rfl rfl)
theorem dX5_measure_73 : decode cX5_measure 73 = .ok (.iload_n 1, 1) := dk_27 (dk_at dksX5_measure_3 3 rfl rfl)
theorem dX5_measure_74 : decode cX5_measure 74 = .ok (.iadd, 1) := dk_96 (dk_at dksX5_measure_3 4 rfl rfl)
theorem dX5_measure_75 : decode cX5_measure 75 = .ok (.iload_n 3, 1) := dk_29 (dk_at dksX5_measure_3 5 rfl rfl)
theorem dX5_measure_76 : decode cX5_measure 76 = .ok (.iastore, 1) := dk_79 (dk_at dksX5_measure_3 6 rfl rfl)
theorem dX5_measure_77 : decode cX5_measure 77 = .ok (.iconst 0, 1) := dk_3 (dk_at dksX5_measure_3 7 rfl rfl)
theorem dX5_measure_78 : decode cX5_measure 78 = .ok (.ireturn, 1) := dk_172 (dk_at dksX5_measure_3 8 rfl rfl)
abbrev cX5_spent : ByteArray := prog_21_method_91_code
def yX5_spent : MethodName := ⟨RX5, "spent", "(II)I"⟩
def dkwX5_spent_5 : List UInt8 := [21, 5, 182, 1, 91, 100, 62, 132, 4, 1, 167, 255, 214]
abbrev dktX5_spent_5 : List UInt8 := dkwX5_spent_5 ++ []
def dkwX5_spent_4 : List UInt8 := [182, 1, 102, 154, 0, 9, 132, 5, 1, 167, 255, 241, 21, 4, 28, 160, 0, 6, 21, 5, 172, 29, 42]
abbrev dktX5_spent_4 : List UInt8 := dkwX5_spent_4 ++ dktX5_spent_5
def dkwX5_spent_3 : List UInt8 := [160, 0, 10, 42, 180, 0, 67, 27, 46, 172, 27, 62, 3, 54, 4, 3, 54, 5, 42, 21, 4, 29, 21, 5]
abbrev dktX5_spent_3 : List UInt8 := dkwX5_spent_3 ++ dktX5_spent_4
def dkwX5_spent_2 : List UInt8 := [182, 0, 89, 172, 42, 27, 182, 1, 99, 28, 2, 160, 0, 10, 42, 180, 0, 64, 27, 46, 172, 28, 16, 20]
abbrev dktX5_spent_2 : List UInt8 := dkwX5_spent_2 ++ dktX5_spent_3
def dkwX5_spent_1 : List UInt8 := [42, 16, 254, 182, 0, 89, 172, 27, 133, 9, 20, 1, 97, 184, 0, 152, 154, 0, 10, 42, 16, 253]
abbrev dktX5_spent_1 : List UInt8 := dkwX5_spent_1 ++ dktX5_spent_2
def dkwX5_spent_0 : List UInt8 := [42, 3, 181, 0, 1, 28, 2, 159, 0, 24, 28, 16, 20, 159, 0, 18, 42, 28, 182, 1, 60, 154, 0, 10]
abbrev dktX5_spent_0 : List UInt8 := dkwX5_spent_0 ++ dktX5_spent_1
theorem dksX5_spent_0 : cX5_spent.data.toList.drop 0 = dktX5_spent_0 := by decide +kernel
theorem dksX5_spent_1 : cX5_spent.data.toList.drop 24 = dktX5_spent_1 := dk_seg dksX5_spent_0 24 rfl rfl
theorem dksX5_spent_2 : cX5_spent.data.toList.drop 46 = dktX5_spent_2 := dk_seg dksX5_spent_1 22 rfl rfl
theorem dksX5_spent_3 : cX5_spent.data.toList.drop 70 = dktX5_spent_3 := dk_seg dksX5_spent_2 24 rfl rfl
theorem dksX5_spent_4 : cX5_spent.data.toList.drop 94 = dktX5_spent_4 := dk_seg dksX5_spent_3 24 rfl rfl
theorem dksX5_spent_5 : cX5_spent.data.toList.drop 117 = dktX5_spent_5 := dk_seg dksX5_spent_4 23 rfl rfl
theorem dX5_spent_0 : decode cX5_spent 0 = .ok (.aload_n 0, 1) := dk_42 (dk_at dksX5_spent_0 0 rfl rfl)
theorem dX5_spent_1 : decode cX5_spent 1 = .ok (.iconst 0, 1) := dk_3 (dk_at dksX5_spent_0 1 rfl rfl)
theorem dX5_spent_2 : decode cX5_spent 2 = .ok (.putfield 1, 3) := dk_181 0 1 (dk_at dksX5_spent_0 2 rfl rfl)
theorem dX5_spent_5 : decode cX5_spent 5 = .ok (.iload_n 2, 1) := dk_28 (dk_at dksX5_spent_0 5 rfl rfl)
theorem dX5_spent_6 : decode cX5_spent 6 = .ok (.iconst (-1), 1) := dk_2 (dk_at dksX5_spent_0 6 rfl rfl)
theorem dX5_spent_7 : decode cX5_spent 7 = .ok (.if_icmp .eq 24, 3) := dk_159 0 24 (dk_at dksX5_spent_0 7 rfl rfl)
theorem dX5_spent_10 : decode cX5_spent 10 = .ok (.iload_n 2, 1) := dk_28 (dk_at dksX5_spent_0 10 rfl rfl)
theorem dX5_spent_11 : decode cX5_spent 11 = .ok (.bipush 20, 2) := dk_16 20 (dk_at dksX5_spent_0 11 rfl rfl)
theorem dX5_spent_13 : decode cX5_spent 13 = .ok (.if_icmp .eq 18, 3) := dk_159 0 18 (dk_at dksX5_spent_0 13 rfl rfl)
theorem dX5_spent_16 : decode cX5_spent 16 = .ok (.aload_n 0, 1) := dk_42 (dk_at dksX5_spent_0 16 rfl rfl)
theorem dX5_spent_17 : decode cX5_spent 17 = .ok (.iload_n 2, 1) := dk_28 (dk_at dksX5_spent_0 17 rfl rfl)
theorem dX5_spent_18 : decode cX5_spent 18 = .ok (.invokevirtual 316, 3) := dk_182 1 60 (dk_at dksX5_spent_0 18 rfl rfl)
theorem dX5_spent_21 : decode cX5_spent 21 = .ok (.ifCond .ne 10, 3) := dk_154 0 10 (dk_at dksX5_spent_0 21 rfl rfl)
theorem dX5_spent_24 : decode cX5_spent 24 = .ok (.aload_n 0, 1) := dk_42 (dk_at dksX5_spent_1 0 rfl rfl)
theorem dX5_spent_25 : decode cX5_spent 25 = .ok (.bipush (-2), 2) := dk_16 254 (dk_at dksX5_spent_1 1 rfl rfl)
theorem dX5_spent_27 : decode cX5_spent 27 = .ok (.invokevirtual 89, 3) := dk_182 0 89 (dk_at dksX5_spent_1 3 rfl rfl)
theorem dX5_spent_30 : decode cX5_spent 30 = .ok (.ireturn, 1) := dk_172 (dk_at dksX5_spent_1 6 rfl rfl)
theorem dX5_spent_31 : decode cX5_spent 31 = .ok (.iload_n 1, 1) := dk_27 (dk_at dksX5_spent_1 7 rfl rfl)
theorem dX5_spent_32 : decode cX5_spent 32 = .ok (.i2l, 1) := dk_133 (dk_at dksX5_spent_1 8 rfl rfl)
theorem dX5_spent_33 : decode cX5_spent 33 = .ok (.lconst 0, 1) := dk_9 (dk_at dksX5_spent_1 9 rfl rfl)
theorem dX5_spent_34 : decode cX5_spent 34 = .ok (.ldc2_w 353, 3) := dk_20 1 97 (dk_at dksX5_spent_1 10 rfl rfl)
theorem dX5_spent_37 : decode cX5_spent 37 = .ok (.invokestatic 152, 3) := dk_184 0 152 (dk_at dksX5_spent_1 13 rfl rfl)
theorem dX5_spent_40 : decode cX5_spent 40 = .ok (.ifCond .ne 10, 3) := dk_154 0 10 (dk_at dksX5_spent_1 16 rfl rfl)
theorem dX5_spent_43 : decode cX5_spent 43 = .ok (.aload_n 0, 1) := dk_42 (dk_at dksX5_spent_1 19 rfl rfl)
theorem dX5_spent_44 : decode cX5_spent 44 = .ok (.bipush (-3), 2) := dk_16 253 (dk_at dksX5_spent_1 20 rfl rfl)
theorem dX5_spent_46 : decode cX5_spent 46 = .ok (.invokevirtual 89, 3) := dk_182 0 89 (dk_at dksX5_spent_2 0 rfl rfl)
theorem dX5_spent_49 : decode cX5_spent 49 = .ok (.ireturn, 1) := dk_172 (dk_at dksX5_spent_2 3 rfl rfl)
theorem dX5_spent_50 : decode cX5_spent 50 = .ok (.aload_n 0, 1) := dk_42 (dk_at dksX5_spent_2 4 rfl rfl)
theorem dX5_spent_51 : decode cX5_spent 51 = .ok (.iload_n 1, 1) := dk_27 (dk_at dksX5_spent_2 5 rfl rfl)
theorem dX5_spent_52 : decode cX5_spent 52 = .ok (.invokevirtual 355, 3) := dk_182 1 99 (dk_at dksX5_spent_2 6 rfl rfl)
theorem dX5_spent_55 : decode cX5_spent 55 = .ok (.iload_n 2, 1) := dk_28 (dk_at dksX5_spent_2 9 rfl rfl)
theorem dX5_spent_56 : decode cX5_spent 56 = .ok (.iconst (-1), 1) := dk_2 (dk_at dksX5_spent_2 10 rfl rfl)
theorem dX5_spent_57 : decode cX5_spent 57 = .ok (.if_icmp .ne 10, 3) := dk_160 0 10 (dk_at dksX5_spent_2 11 rfl rfl)
theorem dX5_spent_60 : decode cX5_spent 60 = .ok (.aload_n 0, 1) := dk_42 (dk_at dksX5_spent_2 14 rfl rfl)
theorem dX5_spent_61 : decode cX5_spent 61 = .ok (.getfield 64, 3) := dk_180 0 64 (dk_at dksX5_spent_2 15 rfl rfl)
theorem dX5_spent_64 : decode cX5_spent 64 = .ok (.iload_n 1, 1) := dk_27 (dk_at dksX5_spent_2 18 rfl rfl)
theorem dX5_spent_65 : decode cX5_spent 65 = .ok (.iaload, 1) := dk_46 (dk_at dksX5_spent_2 19 rfl rfl)
theorem dX5_spent_66 : decode cX5_spent 66 = .ok (.ireturn, 1) := dk_172 (dk_at dksX5_spent_2 20 rfl rfl)
theorem dX5_spent_67 : decode cX5_spent 67 = .ok (.iload_n 2, 1) := dk_28 (dk_at dksX5_spent_2 21 rfl rfl)
theorem dX5_spent_68 : decode cX5_spent 68 = .ok (.bipush 20, 2) := dk_16 20 (dk_at dksX5_spent_2 22 rfl rfl)
theorem dX5_spent_70 : decode cX5_spent 70 = .ok (.if_icmp .ne 10, 3) := dk_160 0 10 (dk_at dksX5_spent_3 0 rfl rfl)
theorem dX5_spent_73 : decode cX5_spent 73 = .ok (.aload_n 0, 1) := dk_42 (dk_at dksX5_spent_3 3 rfl rfl)
theorem dX5_spent_74 : decode cX5_spent 74 = .ok (.getfield 67, 3) := dk_180 0 67 (dk_at dksX5_spent_3 4 rfl rfl)
theorem dX5_spent_77 : decode cX5_spent 77 = .ok (.iload_n 1, 1) := dk_27 (dk_at dksX5_spent_3 7 rfl rfl)
theorem dX5_spent_78 : decode cX5_spent 78 = .ok (.iaload, 1) := dk_46 (dk_at dksX5_spent_3 8 rfl rfl)
theorem dX5_spent_79 : decode cX5_spent 79 = .ok (.ireturn, 1) := dk_172 (dk_at dksX5_spent_3 9 rfl rfl)
theorem dX5_spent_80 : decode cX5_spent 80 = .ok (.iload_n 1, 1) := dk_27 (dk_at dksX5_spent_3 10 rfl rfl)
theorem dX5_spent_81 : decode cX5_spent 81 = .ok (.istore_n 3, 1) := dk_62 (dk_at dksX5_spent_3 11 rfl rfl)
theorem dX5_spent_82 : decode cX5_spent 82 = .ok (.iconst 0, 1) := dk_3 (dk_at dksX5_spent_3 12 rfl rfl)
theorem dX5_spent_83 : decode cX5_spent 83 = .ok (.istore 4, 2) := dk_54 4 (dk_at dksX5_spent_3 13 rfl rfl)
theorem dX5_spent_85 : decode cX5_spent 85 = .ok (.iconst 0, 1) := dk_3 (dk_at dksX5_spent_3 15 rfl rfl)
theorem dX5_spent_86 : decode cX5_spent 86 = .ok (.istore 5, 2) := dk_54 5 (dk_at dksX5_spent_3 16 rfl rfl)
theorem dX5_spent_88 : decode cX5_spent 88 = .ok (.aload_n 0, 1) := dk_42 (dk_at dksX5_spent_3 18 rfl rfl)
theorem dX5_spent_89 : decode cX5_spent 89 = .ok (.iload 4, 2) := dk_21 4 (dk_at dksX5_spent_3 19 rfl rfl)
theorem dX5_spent_91 : decode cX5_spent 91 = .ok (.iload_n 3, 1) := dk_29 (dk_at dksX5_spent_3 21 rfl rfl)
theorem dX5_spent_92 : decode cX5_spent 92 = .ok (.iload 5, 2) := dk_21 5 (dk_at dksX5_spent_3 22 rfl rfl)
theorem dX5_spent_94 : decode cX5_spent 94 = .ok (.invokevirtual 358, 3) := dk_182 1 102 (dk_at dksX5_spent_4 0 rfl rfl)
theorem dX5_spent_97 : decode cX5_spent 97 = .ok (.ifCond .ne 9, 3) := dk_154 0 9 (dk_at dksX5_spent_4 3 rfl rfl)
theorem dX5_spent_100 : decode cX5_spent 100 = .ok (.iinc 5 1, 3) := dk_132 5 1 (dk_at dksX5_spent_4 6 rfl rfl)
theorem dX5_spent_103 : decode cX5_spent 103 = .ok (.goto (-15), 3) := dk_167 255 241 (dk_at dksX5_spent_4 9 rfl rfl)
theorem dX5_spent_106 : decode cX5_spent 106 = .ok (.iload 4, 2) := dk_21 4 (dk_at dksX5_spent_4 12 rfl rfl)
theorem dX5_spent_108 : decode cX5_spent 108 = .ok (.iload_n 2, 1) := dk_28 (dk_at dksX5_spent_4 14 rfl rfl)
theorem dX5_spent_109 : decode cX5_spent 109 = .ok (.if_icmp .ne 6, 3) := dk_160 0 6 (dk_at dksX5_spent_4 15 rfl rfl)
theorem dX5_spent_112 : decode cX5_spent 112 = .ok (.iload 5, 2) := dk_21 5 (dk_at dksX5_spent_4 18 rfl rfl)
theorem dX5_spent_114 : decode cX5_spent 114 = .ok (.ireturn, 1) := dk_172 (dk_at dksX5_spent_4 20 rfl rfl)
theorem dX5_spent_115 : decode cX5_spent 115 = .ok (.iload_n 3, 1) := dk_29 (dk_at dksX5_spent_4 21 rfl rfl)
theorem dX5_spent_116 : decode cX5_spent 116 = .ok (.aload_n 0, 1) := dk_42 (dk_at dksX5_spent_4 22 rfl rfl)
theorem dX5_spent_117 : decode cX5_spent 117 = .ok (.iload 5, 2) := dk_21 5 (dk_at dksX5_spent_5 0 rfl rfl)
theorem dX5_spent_119 : decode cX5_spent 119 = .ok (.invokevirtual 347, 3) := dk_182 1 91 (dk_at dksX5_spent_5 2 rfl rfl)
theorem dX5_spent_122 : decode cX5_spent 122 = .ok (.isub, 1) := dk_100 (dk_at dksX5_spent_5 5 rfl rfl)
theorem dX5_spent_123 : decode cX5_spent 123 = .ok (.istore_n 3, 1) := dk_62 (dk_at dksX5_spent_5 6 rfl rfl)
theorem dX5_spent_124 : decode cX5_spent 124 = .ok (.iinc 4 1, 3) := dk_132 4 1 (dk_at dksX5_spent_5 7 rfl rfl)
theorem dX5_spent_127 : decode cX5_spent 127 = .ok (.goto (-42), 3) := dk_167 255 214 (dk_at dksX5_spent_5 10 rfl rfl)
abbrev cX5_laysSpent : ByteArray := prog_21_method_90_code
def yX5_laysSpent : MethodName := ⟨RX5, "laysSpent", "(I)V"⟩
def dkwX5_laysSpent_10 : List UInt8 := [132, 5, 1, 167, 255, 114, 132, 3, 1, 167, 255, 83, 132, 2, 255, 167, 255, 71, 177]
abbrev dktX5_laysSpent_10 : List UInt8 := dkwX5_laysSpent_10 ++ []
def dkwX5_laysSpent_9 : List UInt8 := [161, 0, 6, 167, 0, 21, 42, 180, 0, 64, 21, 4, 21, 7, 79, 42, 180, 0, 67, 21, 4, 21, 8, 79]
abbrev dktX5_laysSpent_9 : List UInt8 := dkwX5_laysSpent_9 ++ dktX5_laysSpent_10
def dkwX5_laysSpent_8 : List UInt8 := [163, 0, 48, 21, 7, 42, 180, 0, 64, 21, 4, 46, 160, 0, 18, 21, 8, 42, 180, 0, 67, 21, 4, 46]
abbrev dktX5_laysSpent_8 : List UInt8 := dkwX5_laysSpent_8 ++ dktX5_laysSpent_9
def dkwX5_laysSpent_7 : List UInt8 := [54, 8, 42, 180, 0, 64, 21, 4, 46, 2, 159, 0, 42, 21, 7, 42, 180, 0, 64, 21, 4, 46]
abbrev dktX5_laysSpent_7 : List UInt8 := dkwX5_laysSpent_7 ++ dktX5_laysSpent_8
def dkwX5_laysSpent_6 : List UInt8 := [180, 0, 64, 21, 6, 46, 96, 54, 7, 42, 21, 5, 182, 1, 91, 42, 180, 0, 67, 21, 6, 46, 96]
abbrev dktX5_laysSpent_6 : List UInt8 := dkwX5_laysSpent_6 ++ dktX5_laysSpent_7
def dkwX5_laysSpent_5 : List UInt8 := [17, 3, 232, 104, 29, 96, 42, 21, 5, 182, 1, 91, 100, 54, 6, 42, 28, 21, 5, 182, 1, 94, 42]
abbrev dktX5_laysSpent_5 : List UInt8 := dkwX5_laysSpent_5 ++ dktX5_laysSpent_6
def dkwX5_laysSpent_4 : List UInt8 := [21, 5, 16, 16, 162, 0, 141, 42, 21, 5, 182, 1, 91, 29, 164, 0, 6, 167, 0, 122, 28, 4, 96]
abbrev dktX5_laysSpent_4 : List UInt8 := dkwX5_laysSpent_4 ++ dktX5_laysSpent_5
def dkwX5_laysSpent_3 : List UInt8 := [27, 163, 0, 174, 28, 17, 3, 232, 104, 29, 96, 54, 4, 42, 180, 0, 64, 21, 4, 2, 79, 3, 54, 5]
abbrev dktX5_laysSpent_3 : List UInt8 := dkwX5_laysSpent_3 ++ dktX5_laysSpent_4
def dkwX5_laysSpent_2 : List UInt8 := [132, 2, 1, 167, 255, 208, 42, 180, 0, 17, 17, 1, 221, 46, 4, 100, 61, 28, 155, 0, 187, 3, 62, 29]
abbrev dktX5_laysSpent_2 : List UInt8 := dkwX5_laysSpent_2 ++ dktX5_laysSpent_3
def dkwX5_laysSpent_1 : List UInt8 := [96, 3, 79, 42, 180, 0, 67, 42, 180, 0, 17, 17, 1, 221, 46, 17, 3, 232, 104, 28, 96, 3, 79]
abbrev dktX5_laysSpent_1 : List UInt8 := dkwX5_laysSpent_1 ++ dktX5_laysSpent_2
def dkwX5_laysSpent_0 : List UInt8 := [3, 61, 28, 27, 163, 0, 49, 42, 180, 0, 64, 42, 180, 0, 17, 17, 1, 221, 46, 17, 3, 232, 104, 28]
abbrev dktX5_laysSpent_0 : List UInt8 := dkwX5_laysSpent_0 ++ dktX5_laysSpent_1
theorem dksX5_laysSpent_0 : cX5_laysSpent.data.toList.drop 0 = dktX5_laysSpent_0 := by decide +kernel
theorem dksX5_laysSpent_1 : cX5_laysSpent.data.toList.drop 24 = dktX5_laysSpent_1 := dk_seg dksX5_laysSpent_0 24 rfl rfl
theorem dksX5_laysSpent_2 : cX5_laysSpent.data.toList.drop 47 = dktX5_laysSpent_2 := dk_seg dksX5_laysSpent_1 23 rfl rfl
theorem dksX5_laysSpent_3 : cX5_laysSpent.data.toList.drop 71 = dktX5_laysSpent_3 := dk_seg dksX5_laysSpent_2 24 rfl rfl
theorem dksX5_laysSpent_4 : cX5_laysSpent.data.toList.drop 95 = dktX5_laysSpent_4 := dk_seg dksX5_laysSpent_3 24 rfl rfl
theorem dksX5_laysSpent_5 : cX5_laysSpent.data.toList.drop 118 = dktX5_laysSpent_5 := dk_seg dksX5_laysSpent_4 23 rfl rfl
theorem dksX5_laysSpent_6 : cX5_laysSpent.data.toList.drop 141 = dktX5_laysSpent_6 := dk_seg dksX5_laysSpent_5 23 rfl rfl
theorem dksX5_laysSpent_7 : cX5_laysSpent.data.toList.drop 164 = dktX5_laysSpent_7 := dk_seg dksX5_laysSpent_6 23 rfl rfl
theorem dksX5_laysSpent_8 : cX5_laysSpent.data.toList.drop 186 = dktX5_laysSpent_8 := dk_seg dksX5_laysSpent_7 22 rfl rfl
theorem dksX5_laysSpent_9 : cX5_laysSpent.data.toList.drop 210 = dktX5_laysSpent_9 := dk_seg dksX5_laysSpent_8 24 rfl rfl
theorem dksX5_laysSpent_10 : cX5_laysSpent.data.toList.drop 234 = dktX5_laysSpent_10 := dk_seg dksX5_laysSpent_9 24 rfl rfl
theorem dX5_laysSpent_0 : decode cX5_laysSpent 0 = .ok (.iconst 0, 1) := dk_3 (dk_at dksX5_laysSpent_0 0 rfl rfl)
theorem dX5_laysSpent_1 : decode cX5_laysSpent 1 = .ok (.istore_n 2, 1) := dk_61 (dk_at dksX5_laysSpent_0 1 rfl rfl)
theorem dX5_laysSpent_2 : decode cX5_laysSpent 2 = .ok (.iload_n 2, 1) := dk_28 (dk_at dksX5_laysSpent_0 2 rfl rfl)
theorem dX5_laysSpent_3 : decode cX5_laysSpent 3 = .ok (.iload_n 1, 1) := dk_27 (dk_at dksX5_laysSpent_0 3 rfl rfl)
theorem dX5_laysSpent_4 : decode cX5_laysSpent 4 = .ok (.if_icmp .gt 49, 3) := dk_163 0 49 (dk_at dksX5_laysSpent_0 4 rfl rfl)
theorem dX5_laysSpent_7 : decode cX5_laysSpent 7 = .ok (.aload_n 0, 1) := dk_42 (dk_at dksX5_laysSpent_0 7 rfl rfl)
theorem dX5_laysSpent_8 : decode cX5_laysSpent 8 = .ok (.getfield 64, 3) := dk_180 0 64 (dk_at dksX5_laysSpent_0 8 rfl rfl)
theorem dX5_laysSpent_11 : decode cX5_laysSpent 11 = .ok (.aload_n 0, 1) := dk_42 (dk_at dksX5_laysSpent_0 11 rfl rfl)
theorem dX5_laysSpent_12 : decode cX5_laysSpent 12 = .ok (.getfield 17, 3) := dk_180 0 17 (dk_at dksX5_laysSpent_0 12 rfl rfl)
theorem dX5_laysSpent_15 : decode cX5_laysSpent 15 = .ok (.sipush 477, 3) := dk_17 1 221 (dk_at dksX5_laysSpent_0 15 rfl rfl)
theorem dX5_laysSpent_18 : decode cX5_laysSpent 18 = .ok (.iaload, 1) := dk_46 (dk_at dksX5_laysSpent_0 18 rfl rfl)
theorem dX5_laysSpent_19 : decode cX5_laysSpent 19 = .ok (.sipush 1000, 3) := dk_17 3 232 (dk_at dksX5_laysSpent_0 19 rfl rfl)
theorem dX5_laysSpent_22 : decode cX5_laysSpent 22 = .ok (.imul, 1) := dk_104 (dk_at dksX5_laysSpent_0 22 rfl rfl)
theorem dX5_laysSpent_23 : decode cX5_laysSpent 23 = .ok (.iload_n 2, 1) := dk_28 (dk_at dksX5_laysSpent_0 23 rfl rfl)
theorem dX5_laysSpent_24 : decode cX5_laysSpent 24 = .ok (.iadd, 1) := dk_96 (dk_at dksX5_laysSpent_1 0 rfl rfl)
theorem dX5_laysSpent_25 : decode cX5_laysSpent 25 = .ok (.iconst 0, 1) := dk_3 (dk_at dksX5_laysSpent_1 1 rfl rfl)
theorem dX5_laysSpent_26 : decode cX5_laysSpent 26 = .ok (.iastore, 1) := dk_79 (dk_at dksX5_laysSpent_1 2 rfl rfl)
theorem dX5_laysSpent_27 : decode cX5_laysSpent 27 = .ok (.aload_n 0, 1) := dk_42 (dk_at dksX5_laysSpent_1 3 rfl rfl)
theorem dX5_laysSpent_28 : decode cX5_laysSpent 28 = .ok (.getfield 67, 3) := dk_180 0 67 (dk_at dksX5_laysSpent_1 4 rfl rfl)
theorem dX5_laysSpent_31 : decode cX5_laysSpent 31 = .ok (.aload_n 0, 1) := dk_42 (dk_at dksX5_laysSpent_1 7 rfl rfl)
theorem dX5_laysSpent_32 : decode cX5_laysSpent 32 = .ok (.getfield 17, 3) := dk_180 0 17 (dk_at dksX5_laysSpent_1 8 rfl rfl)
theorem dX5_laysSpent_35 : decode cX5_laysSpent 35 = .ok (.sipush 477, 3) := dk_17 1 221 (dk_at dksX5_laysSpent_1 11 rfl rfl)
theorem dX5_laysSpent_38 : decode cX5_laysSpent 38 = .ok (.iaload, 1) := dk_46 (dk_at dksX5_laysSpent_1 14 rfl rfl)
theorem dX5_laysSpent_39 : decode cX5_laysSpent 39 = .ok (.sipush 1000, 3) := dk_17 3 232 (dk_at dksX5_laysSpent_1 15 rfl rfl)
theorem dX5_laysSpent_42 : decode cX5_laysSpent 42 = .ok (.imul, 1) := dk_104 (dk_at dksX5_laysSpent_1 18 rfl rfl)
theorem dX5_laysSpent_43 : decode cX5_laysSpent 43 = .ok (.iload_n 2, 1) := dk_28 (dk_at dksX5_laysSpent_1 19 rfl rfl)
theorem dX5_laysSpent_44 : decode cX5_laysSpent 44 = .ok (.iadd, 1) := dk_96 (dk_at dksX5_laysSpent_1 20 rfl rfl)
theorem dX5_laysSpent_45 : decode cX5_laysSpent 45 = .ok (.iconst 0, 1) := dk_3 (dk_at dksX5_laysSpent_1 21 rfl rfl)
theorem dX5_laysSpent_46 : decode cX5_laysSpent 46 = .ok (.iastore, 1) := dk_79 (dk_at dksX5_laysSpent_1 22 rfl rfl)
theorem dX5_laysSpent_47 : decode cX5_laysSpent 47 = .ok (.iinc 2 1, 3) := dk_132 2 1 (dk_at dksX5_laysSpent_2 0 rfl rfl)
theorem dX5_laysSpent_50 : decode cX5_laysSpent 50 = .ok (.goto (-48), 3) := dk_167 255 208 (dk_at dksX5_laysSpent_2 3 rfl rfl)
theorem dX5_laysSpent_53 : decode cX5_laysSpent 53 = .ok (.aload_n 0, 1) := dk_42 (dk_at dksX5_laysSpent_2 6 rfl rfl)
theorem dX5_laysSpent_54 : decode cX5_laysSpent 54 = .ok (.getfield 17, 3) := dk_180 0 17 (dk_at dksX5_laysSpent_2 7 rfl rfl)
theorem dX5_laysSpent_57 : decode cX5_laysSpent 57 = .ok (.sipush 477, 3) := dk_17 1 221 (dk_at dksX5_laysSpent_2 10 rfl rfl)
theorem dX5_laysSpent_60 : decode cX5_laysSpent 60 = .ok (.iaload, 1) := dk_46 (dk_at dksX5_laysSpent_2 13 rfl rfl)
theorem dX5_laysSpent_61 : decode cX5_laysSpent 61 = .ok (.iconst 1, 1) := dk_4 (dk_at dksX5_laysSpent_2 14 rfl rfl)
theorem dX5_laysSpent_62 : decode cX5_laysSpent 62 = .ok (.isub, 1) := dk_100 (dk_at dksX5_laysSpent_2 15 rfl rfl)
theorem dX5_laysSpent_63 : decode cX5_laysSpent 63 = .ok (.istore_n 2, 1) := dk_61 (dk_at dksX5_laysSpent_2 16 rfl rfl)
theorem dX5_laysSpent_64 : decode cX5_laysSpent 64 = .ok (.iload_n 2, 1) := dk_28 (dk_at dksX5_laysSpent_2 17 rfl rfl)
theorem dX5_laysSpent_65 : decode cX5_laysSpent 65 = .ok (.ifCond .lt 187, 3) := dk_155 0 187 (dk_at dksX5_laysSpent_2 18 rfl rfl)
theorem dX5_laysSpent_68 : decode cX5_laysSpent 68 = .ok (.iconst 0, 1) := dk_3 (dk_at dksX5_laysSpent_2 21 rfl rfl)
theorem dX5_laysSpent_69 : decode cX5_laysSpent 69 = .ok (.istore_n 3, 1) := dk_62 (dk_at dksX5_laysSpent_2 22 rfl rfl)
theorem dX5_laysSpent_70 : decode cX5_laysSpent 70 = .ok (.iload_n 3, 1) := dk_29 (dk_at dksX5_laysSpent_2 23 rfl rfl)
theorem dX5_laysSpent_71 : decode cX5_laysSpent 71 = .ok (.iload_n 1, 1) := dk_27 (dk_at dksX5_laysSpent_3 0 rfl rfl)
theorem dX5_laysSpent_72 : decode cX5_laysSpent 72 = .ok (.if_icmp .gt 174, 3) := dk_163 0 174 (dk_at dksX5_laysSpent_3 1 rfl rfl)
theorem dX5_laysSpent_75 : decode cX5_laysSpent 75 = .ok (.iload_n 2, 1) := dk_28 (dk_at dksX5_laysSpent_3 4 rfl rfl)
theorem dX5_laysSpent_76 : decode cX5_laysSpent 76 = .ok (.sipush 1000, 3) := dk_17 3 232 (dk_at dksX5_laysSpent_3 5 rfl rfl)
theorem dX5_laysSpent_79 : decode cX5_laysSpent 79 = .ok (.imul, 1) := dk_104 (dk_at dksX5_laysSpent_3 8 rfl rfl)
theorem dX5_laysSpent_80 : decode cX5_laysSpent 80 = .ok (.iload_n 3, 1) := dk_29 (dk_at dksX5_laysSpent_3 9 rfl rfl)
theorem dX5_laysSpent_81 : decode cX5_laysSpent 81 = .ok (.iadd, 1) := dk_96 (dk_at dksX5_laysSpent_3 10 rfl rfl)
theorem dX5_laysSpent_82 : decode cX5_laysSpent 82 = .ok (.istore 4, 2) := dk_54 4 (dk_at dksX5_laysSpent_3 11 rfl rfl)
theorem dX5_laysSpent_84 : decode cX5_laysSpent 84 = .ok (.aload_n 0, 1) := dk_42 (dk_at dksX5_laysSpent_3 13 rfl rfl)
theorem dX5_laysSpent_85 : decode cX5_laysSpent 85 = .ok (.getfield 64, 3) := dk_180 0 64 (dk_at dksX5_laysSpent_3 14 rfl rfl)
theorem dX5_laysSpent_88 : decode cX5_laysSpent 88 = .ok (.iload 4, 2) := dk_21 4 (dk_at dksX5_laysSpent_3 17 rfl rfl)
theorem dX5_laysSpent_90 : decode cX5_laysSpent 90 = .ok (.iconst (-1), 1) := dk_2 (dk_at dksX5_laysSpent_3 19 rfl rfl)
theorem dX5_laysSpent_91 : decode cX5_laysSpent 91 = .ok (.iastore, 1) := dk_79 (dk_at dksX5_laysSpent_3 20 rfl rfl)
theorem dX5_laysSpent_92 : decode cX5_laysSpent 92 = .ok (.iconst 0, 1) := dk_3 (dk_at dksX5_laysSpent_3 21 rfl rfl)
theorem dX5_laysSpent_93 : decode cX5_laysSpent 93 = .ok (.istore 5, 2) := dk_54 5 (dk_at dksX5_laysSpent_3 22 rfl rfl)
theorem dX5_laysSpent_95 : decode cX5_laysSpent 95 = .ok (.iload 5, 2) := dk_21 5 (dk_at dksX5_laysSpent_4 0 rfl rfl)
theorem dX5_laysSpent_97 : decode cX5_laysSpent 97 = .ok (.bipush 16, 2) := dk_16 16 (dk_at dksX5_laysSpent_4 2 rfl rfl)
theorem dX5_laysSpent_99 : decode cX5_laysSpent 99 = .ok (.if_icmp .ge 141, 3) := dk_162 0 141 (dk_at dksX5_laysSpent_4 4 rfl rfl)
theorem dX5_laysSpent_102 : decode cX5_laysSpent 102 = .ok (.aload_n 0, 1) := dk_42 (dk_at dksX5_laysSpent_4 7 rfl rfl)
theorem dX5_laysSpent_103 : decode cX5_laysSpent 103 = .ok (.iload 5, 2) := dk_21 5 (dk_at dksX5_laysSpent_4 8 rfl rfl)
theorem dX5_laysSpent_105 : decode cX5_laysSpent 105 = .ok (.invokevirtual 347, 3) := dk_182 1 91 (dk_at dksX5_laysSpent_4 10 rfl rfl)
theorem dX5_laysSpent_108 : decode cX5_laysSpent 108 = .ok (.iload_n 3, 1) := dk_29 (dk_at dksX5_laysSpent_4 13 rfl rfl)
theorem dX5_laysSpent_109 : decode cX5_laysSpent 109 = .ok (.if_icmp .le 6, 3) := dk_164 0 6 (dk_at dksX5_laysSpent_4 14 rfl rfl)
theorem dX5_laysSpent_112 : decode cX5_laysSpent 112 = .ok (.goto 122, 3) := dk_167 0 122 (dk_at dksX5_laysSpent_4 17 rfl rfl)
theorem dX5_laysSpent_115 : decode cX5_laysSpent 115 = .ok (.iload_n 2, 1) := dk_28 (dk_at dksX5_laysSpent_4 20 rfl rfl)
theorem dX5_laysSpent_116 : decode cX5_laysSpent 116 = .ok (.iconst 1, 1) := dk_4 (dk_at dksX5_laysSpent_4 21 rfl rfl)
theorem dX5_laysSpent_117 : decode cX5_laysSpent 117 = .ok (.iadd, 1) := dk_96 (dk_at dksX5_laysSpent_4 22 rfl rfl)
theorem dX5_laysSpent_118 : decode cX5_laysSpent 118 = .ok (.sipush 1000, 3) := dk_17 3 232 (dk_at dksX5_laysSpent_5 0 rfl rfl)
theorem dX5_laysSpent_121 : decode cX5_laysSpent 121 = .ok (.imul, 1) := dk_104 (dk_at dksX5_laysSpent_5 3 rfl rfl)
theorem dX5_laysSpent_122 : decode cX5_laysSpent 122 = .ok (.iload_n 3, 1) := dk_29 (dk_at dksX5_laysSpent_5 4 rfl rfl)
theorem dX5_laysSpent_123 : decode cX5_laysSpent 123 = .ok (.iadd, 1) := dk_96 (dk_at dksX5_laysSpent_5 5 rfl rfl)
theorem dX5_laysSpent_124 : decode cX5_laysSpent 124 = .ok (.aload_n 0, 1) := dk_42 (dk_at dksX5_laysSpent_5 6 rfl rfl)
theorem dX5_laysSpent_125 : decode cX5_laysSpent 125 = .ok (.iload 5, 2) := dk_21 5 (dk_at dksX5_laysSpent_5 7 rfl rfl)
theorem dX5_laysSpent_127 : decode cX5_laysSpent 127 = .ok (.invokevirtual 347, 3) := dk_182 1 91 (dk_at dksX5_laysSpent_5 9 rfl rfl)
theorem dX5_laysSpent_130 : decode cX5_laysSpent 130 = .ok (.isub, 1) := dk_100 (dk_at dksX5_laysSpent_5 12 rfl rfl)
theorem dX5_laysSpent_131 : decode cX5_laysSpent 131 = .ok (.istore 6, 2) := dk_54 6 (dk_at dksX5_laysSpent_5 13 rfl rfl)
theorem dX5_laysSpent_133 : decode cX5_laysSpent 133 = .ok (.aload_n 0, 1) := dk_42 (dk_at dksX5_laysSpent_5 15 rfl rfl)
theorem dX5_laysSpent_134 : decode cX5_laysSpent 134 = .ok (.iload_n 2, 1) := dk_28 (dk_at dksX5_laysSpent_5 16 rfl rfl)
theorem dX5_laysSpent_135 : decode cX5_laysSpent 135 = .ok (.iload 5, 2) := dk_21 5 (dk_at dksX5_laysSpent_5 17 rfl rfl)
theorem dX5_laysSpent_137 : decode cX5_laysSpent 137 = .ok (.invokevirtual 350, 3) := dk_182 1 94 (dk_at dksX5_laysSpent_5 19 rfl rfl)
theorem dX5_laysSpent_140 : decode cX5_laysSpent 140 = .ok (.aload_n 0, 1) := dk_42 (dk_at dksX5_laysSpent_5 22 rfl rfl)
theorem dX5_laysSpent_141 : decode cX5_laysSpent 141 = .ok (.getfield 64, 3) := dk_180 0 64 (dk_at dksX5_laysSpent_6 0 rfl rfl)
theorem dX5_laysSpent_144 : decode cX5_laysSpent 144 = .ok (.iload 6, 2) := dk_21 6 (dk_at dksX5_laysSpent_6 3 rfl rfl)
theorem dX5_laysSpent_146 : decode cX5_laysSpent 146 = .ok (.iaload, 1) := dk_46 (dk_at dksX5_laysSpent_6 5 rfl rfl)
theorem dX5_laysSpent_147 : decode cX5_laysSpent 147 = .ok (.iadd, 1) := dk_96 (dk_at dksX5_laysSpent_6 6 rfl rfl)
theorem dX5_laysSpent_148 : decode cX5_laysSpent 148 = .ok (.istore 7, 2) := dk_54 7 (dk_at dksX5_laysSpent_6 7 rfl rfl)
theorem dX5_laysSpent_150 : decode cX5_laysSpent 150 = .ok (.aload_n 0, 1) := dk_42 (dk_at dksX5_laysSpent_6 9 rfl rfl)
theorem dX5_laysSpent_151 : decode cX5_laysSpent 151 = .ok (.iload 5, 2) := dk_21 5 (dk_at dksX5_laysSpent_6 10 rfl rfl)
theorem dX5_laysSpent_153 : decode cX5_laysSpent 153 = .ok (.invokevirtual 347, 3) := dk_182 1 91 (dk_at dksX5_laysSpent_6 12 rfl rfl)
theorem dX5_laysSpent_156 : decode cX5_laysSpent 156 = .ok (.aload_n 0, 1) := dk_42 (dk_at dksX5_laysSpent_6 15 rfl rfl)
theorem dX5_laysSpent_157 : decode cX5_laysSpent 157 = .ok (.getfield 67, 3) := dk_180 0 67 (dk_at dksX5_laysSpent_6 16 rfl rfl)
theorem dX5_laysSpent_160 : decode cX5_laysSpent 160 = .ok (.iload 6, 2) := dk_21 6 (dk_at dksX5_laysSpent_6 19 rfl rfl)
theorem dX5_laysSpent_162 : decode cX5_laysSpent 162 = .ok (.iaload, 1) := dk_46 (dk_at dksX5_laysSpent_6 21 rfl rfl)
theorem dX5_laysSpent_163 : decode cX5_laysSpent 163 = .ok (.iadd, 1) := dk_96 (dk_at dksX5_laysSpent_6 22 rfl rfl)
theorem dX5_laysSpent_164 : decode cX5_laysSpent 164 = .ok (.istore 8, 2) := dk_54 8 (dk_at dksX5_laysSpent_7 0 rfl rfl)
theorem dX5_laysSpent_166 : decode cX5_laysSpent 166 = .ok (.aload_n 0, 1) := dk_42 (dk_at dksX5_laysSpent_7 2 rfl rfl)
theorem dX5_laysSpent_167 : decode cX5_laysSpent 167 = .ok (.getfield 64, 3) := dk_180 0 64 (dk_at dksX5_laysSpent_7 3 rfl rfl)
theorem dX5_laysSpent_170 : decode cX5_laysSpent 170 = .ok (.iload 4, 2) := dk_21 4 (dk_at dksX5_laysSpent_7 6 rfl rfl)
theorem dX5_laysSpent_172 : decode cX5_laysSpent 172 = .ok (.iaload, 1) := dk_46 (dk_at dksX5_laysSpent_7 8 rfl rfl)
theorem dX5_laysSpent_173 : decode cX5_laysSpent 173 = .ok (.iconst (-1), 1) := dk_2 (dk_at dksX5_laysSpent_7 9 rfl rfl)
theorem dX5_laysSpent_174 : decode cX5_laysSpent 174 = .ok (.if_icmp .eq 42, 3) := dk_159 0 42 (dk_at dksX5_laysSpent_7 10 rfl rfl)
theorem dX5_laysSpent_177 : decode cX5_laysSpent 177 = .ok (.iload 7, 2) := dk_21 7 (dk_at dksX5_laysSpent_7 13 rfl rfl)
theorem dX5_laysSpent_179 : decode cX5_laysSpent 179 = .ok (.aload_n 0, 1) := dk_42 (dk_at dksX5_laysSpent_7 15 rfl rfl)
theorem dX5_laysSpent_180 : decode cX5_laysSpent 180 = .ok (.getfield 64, 3) := dk_180 0 64 (dk_at dksX5_laysSpent_7 16 rfl rfl)
theorem dX5_laysSpent_183 : decode cX5_laysSpent 183 = .ok (.iload 4, 2) := dk_21 4 (dk_at dksX5_laysSpent_7 19 rfl rfl)
theorem dX5_laysSpent_185 : decode cX5_laysSpent 185 = .ok (.iaload, 1) := dk_46 (dk_at dksX5_laysSpent_7 21 rfl rfl)
theorem dX5_laysSpent_186 : decode cX5_laysSpent 186 = .ok (.if_icmp .gt 48, 3) := dk_163 0 48 (dk_at dksX5_laysSpent_8 0 rfl rfl)
theorem dX5_laysSpent_189 : decode cX5_laysSpent 189 = .ok (.iload 7, 2) := dk_21 7 (dk_at dksX5_laysSpent_8 3 rfl rfl)
theorem dX5_laysSpent_191 : decode cX5_laysSpent 191 = .ok (.aload_n 0, 1) := dk_42 (dk_at dksX5_laysSpent_8 5 rfl rfl)
theorem dX5_laysSpent_192 : decode cX5_laysSpent 192 = .ok (.getfield 64, 3) := dk_180 0 64 (dk_at dksX5_laysSpent_8 6 rfl rfl)
theorem dX5_laysSpent_195 : decode cX5_laysSpent 195 = .ok (.iload 4, 2) := dk_21 4 (dk_at dksX5_laysSpent_8 9 rfl rfl)
theorem dX5_laysSpent_197 : decode cX5_laysSpent 197 = .ok (.iaload, 1) := dk_46 (dk_at dksX5_laysSpent_8 11 rfl rfl)
theorem dX5_laysSpent_198 : decode cX5_laysSpent 198 = .ok (.if_icmp .ne 18, 3) := dk_160 0 18 (dk_at dksX5_laysSpent_8 12 rfl rfl)
theorem dX5_laysSpent_201 : decode cX5_laysSpent 201 = .ok (.iload 8, 2) := dk_21 8 (dk_at dksX5_laysSpent_8 15 rfl rfl)
theorem dX5_laysSpent_203 : decode cX5_laysSpent 203 = .ok (.aload_n 0, 1) := dk_42 (dk_at dksX5_laysSpent_8 17 rfl rfl)
theorem dX5_laysSpent_204 : decode cX5_laysSpent 204 = .ok (.getfield 67, 3) := dk_180 0 67 (dk_at dksX5_laysSpent_8 18 rfl rfl)
theorem dX5_laysSpent_207 : decode cX5_laysSpent 207 = .ok (.iload 4, 2) := dk_21 4 (dk_at dksX5_laysSpent_8 21 rfl rfl)
theorem dX5_laysSpent_209 : decode cX5_laysSpent 209 = .ok (.iaload, 1) := dk_46 (dk_at dksX5_laysSpent_8 23 rfl rfl)
theorem dX5_laysSpent_210 : decode cX5_laysSpent 210 = .ok (.if_icmp .lt 6, 3) := dk_161 0 6 (dk_at dksX5_laysSpent_9 0 rfl rfl)
theorem dX5_laysSpent_213 : decode cX5_laysSpent 213 = .ok (.goto 21, 3) := dk_167 0 21 (dk_at dksX5_laysSpent_9 3 rfl rfl)
theorem dX5_laysSpent_216 : decode cX5_laysSpent 216 = .ok (.aload_n 0, 1) := dk_42 (dk_at dksX5_laysSpent_9 6 rfl rfl)
theorem dX5_laysSpent_217 : decode cX5_laysSpent 217 = .ok (.getfield 64, 3) := dk_180 0 64 (dk_at dksX5_laysSpent_9 7 rfl rfl)
theorem dX5_laysSpent_220 : decode cX5_laysSpent 220 = .ok (.iload 4, 2) := dk_21 4 (dk_at dksX5_laysSpent_9 10 rfl rfl)
theorem dX5_laysSpent_222 : decode cX5_laysSpent 222 = .ok (.iload 7, 2) := dk_21 7 (dk_at dksX5_laysSpent_9 12 rfl rfl)
theorem dX5_laysSpent_224 : decode cX5_laysSpent 224 = .ok (.iastore, 1) := dk_79 (dk_at dksX5_laysSpent_9 14 rfl rfl)
theorem dX5_laysSpent_225 : decode cX5_laysSpent 225 = .ok (.aload_n 0, 1) := dk_42 (dk_at dksX5_laysSpent_9 15 rfl rfl)
theorem dX5_laysSpent_226 : decode cX5_laysSpent 226 = .ok (.getfield 67, 3) := dk_180 0 67 (dk_at dksX5_laysSpent_9 16 rfl rfl)
theorem dX5_laysSpent_229 : decode cX5_laysSpent 229 = .ok (.iload 4, 2) := dk_21 4 (dk_at dksX5_laysSpent_9 19 rfl rfl)
theorem dX5_laysSpent_231 : decode cX5_laysSpent 231 = .ok (.iload 8, 2) := dk_21 8 (dk_at dksX5_laysSpent_9 21 rfl rfl)
theorem dX5_laysSpent_233 : decode cX5_laysSpent 233 = .ok (.iastore, 1) := dk_79 (dk_at dksX5_laysSpent_9 23 rfl rfl)
theorem dX5_laysSpent_234 : decode cX5_laysSpent 234 = .ok (.iinc 5 1, 3) := dk_132 5 1 (dk_at dksX5_laysSpent_10 0 rfl rfl)
theorem dX5_laysSpent_237 : decode cX5_laysSpent 237 = .ok (.goto (-142), 3) := dk_167 255 114 (dk_at dksX5_laysSpent_10 3 rfl rfl)
theorem dX5_laysSpent_240 : decode cX5_laysSpent 240 = .ok (.iinc 3 1, 3) := dk_132 3 1 (dk_at dksX5_laysSpent_10 6 rfl rfl)
theorem dX5_laysSpent_243 : decode cX5_laysSpent 243 = .ok (.goto (-173), 3) := dk_167 255 83 (dk_at dksX5_laysSpent_10 9 rfl rfl)
theorem dX5_laysSpent_246 : decode cX5_laysSpent 246 = .ok (.iinc 2 (-1), 3) := dk_132 2 255 (dk_at dksX5_laysSpent_10 12 rfl rfl)
theorem dX5_laysSpent_249 : decode cX5_laysSpent 249 = .ok (.goto (-185), 3) := dk_167 255 71 (dk_at dksX5_laysSpent_10 15 rfl rfl)
theorem dX5_laysSpent_252 : decode cX5_laysSpent 252 = .ok (.return_, 1) := dk_177 (dk_at dksX5_laysSpent_10 18 rfl rfl)
abbrev cX5_costOf : ByteArray := prog_21_method_87_code
def yX5_costOf : MethodName := ⟨RX5, "costOf", "(I)I"⟩
def dkwX5_costOf_1 : List UInt8 := [17, 2, 38, 29, 96, 46, 167, 0, 4, 3, 96, 61, 132, 3, 1, 167, 255, 222, 28, 172]
abbrev dktX5_costOf_1 : List UInt8 := dkwX5_costOf_1 ++ []
def dkwX5_costOf_0 : List UInt8 := [3, 61, 3, 62, 29, 7, 162, 0, 35, 28, 27, 29, 122, 4, 126, 4, 160, 0, 16, 42, 180, 0, 17]
abbrev dktX5_costOf_0 : List UInt8 := dkwX5_costOf_0 ++ dktX5_costOf_1
theorem dksX5_costOf_0 : cX5_costOf.data.toList.drop 0 = dktX5_costOf_0 := by decide +kernel
theorem dksX5_costOf_1 : cX5_costOf.data.toList.drop 23 = dktX5_costOf_1 := dk_seg dksX5_costOf_0 23 rfl rfl
theorem dX5_costOf_0 : decode cX5_costOf 0 = .ok (.iconst 0, 1) := dk_3 (dk_at dksX5_costOf_0 0 rfl rfl)
theorem dX5_costOf_1 : decode cX5_costOf 1 = .ok (.istore_n 2, 1) := dk_61 (dk_at dksX5_costOf_0 1 rfl rfl)
theorem dX5_costOf_2 : decode cX5_costOf 2 = .ok (.iconst 0, 1) := dk_3 (dk_at dksX5_costOf_0 2 rfl rfl)
theorem dX5_costOf_3 : decode cX5_costOf 3 = .ok (.istore_n 3, 1) := dk_62 (dk_at dksX5_costOf_0 3 rfl rfl)
theorem dX5_costOf_4 : decode cX5_costOf 4 = .ok (.iload_n 3, 1) := dk_29 (dk_at dksX5_costOf_0 4 rfl rfl)
theorem dX5_costOf_5 : decode cX5_costOf 5 = .ok (.iconst 4, 1) := dk_7 (dk_at dksX5_costOf_0 5 rfl rfl)
theorem dX5_costOf_6 : decode cX5_costOf 6 = .ok (.if_icmp .ge 35, 3) := dk_162 0 35 (dk_at dksX5_costOf_0 6 rfl rfl)
theorem dX5_costOf_9 : decode cX5_costOf 9 = .ok (.iload_n 2, 1) := dk_28 (dk_at dksX5_costOf_0 9 rfl rfl)
theorem dX5_costOf_10 : decode cX5_costOf 10 = .ok (.iload_n 1, 1) := dk_27 (dk_at dksX5_costOf_0 10 rfl rfl)
theorem dX5_costOf_11 : decode cX5_costOf 11 = .ok (.iload_n 3, 1) := dk_29 (dk_at dksX5_costOf_0 11 rfl rfl)
theorem dX5_costOf_12 : decode cX5_costOf 12 = .ok (.ishr, 1) := dk_122 (dk_at dksX5_costOf_0 12 rfl rfl)
theorem dX5_costOf_13 : decode cX5_costOf 13 = .ok (.iconst 1, 1) := dk_4 (dk_at dksX5_costOf_0 13 rfl rfl)
theorem dX5_costOf_14 : decode cX5_costOf 14 = .ok (.iand, 1) := dk_126 (dk_at dksX5_costOf_0 14 rfl rfl)
theorem dX5_costOf_15 : decode cX5_costOf 15 = .ok (.iconst 1, 1) := dk_4 (dk_at dksX5_costOf_0 15 rfl rfl)
theorem dX5_costOf_16 : decode cX5_costOf 16 = .ok (.if_icmp .ne 16, 3) := dk_160 0 16 (dk_at dksX5_costOf_0 16 rfl rfl)
theorem dX5_costOf_19 : decode cX5_costOf 19 = .ok (.aload_n 0, 1) := dk_42 (dk_at dksX5_costOf_0 19 rfl rfl)
theorem dX5_costOf_20 : decode cX5_costOf 20 = .ok (.getfield 17, 3) := dk_180 0 17 (dk_at dksX5_costOf_0 20 rfl rfl)
theorem dX5_costOf_23 : decode cX5_costOf 23 = .ok (.sipush 550, 3) := dk_17 2 38 (dk_at dksX5_costOf_1 0 rfl rfl)
theorem dX5_costOf_26 : decode cX5_costOf 26 = .ok (.iload_n 3, 1) := dk_29 (dk_at dksX5_costOf_1 3 rfl rfl)
theorem dX5_costOf_27 : decode cX5_costOf 27 = .ok (.iadd, 1) := dk_96 (dk_at dksX5_costOf_1 4 rfl rfl)
theorem dX5_costOf_28 : decode cX5_costOf 28 = .ok (.iaload, 1) := dk_46 (dk_at dksX5_costOf_1 5 rfl rfl)
theorem dX5_costOf_29 : decode cX5_costOf 29 = .ok (.goto 4, 3) := dk_167 0 4 (dk_at dksX5_costOf_1 6 rfl rfl)
theorem dX5_costOf_32 : decode cX5_costOf 32 = .ok (.iconst 0, 1) := dk_3 (dk_at dksX5_costOf_1 9 rfl rfl)
theorem dX5_costOf_33 : decode cX5_costOf 33 = .ok (.iadd, 1) := dk_96 (dk_at dksX5_costOf_1 10 rfl rfl)
theorem dX5_costOf_34 : decode cX5_costOf 34 = .ok (.istore_n 2, 1) := dk_61 (dk_at dksX5_costOf_1 11 rfl rfl)
theorem dX5_costOf_35 : decode cX5_costOf 35 = .ok (.iinc 3 1, 3) := dk_132 3 1 (dk_at dksX5_costOf_1 12 rfl rfl)
theorem dX5_costOf_38 : decode cX5_costOf 38 = .ok (.goto (-34), 3) := dk_167 255 222 (dk_at dksX5_costOf_1 15 rfl rfl)
theorem dX5_costOf_41 : decode cX5_costOf 41 = .ok (.iload_n 2, 1) := dk_28 (dk_at dksX5_costOf_1 18 rfl rfl)
theorem dX5_costOf_42 : decode cX5_costOf 42 = .ok (.ireturn, 1) := dk_172 (dk_at dksX5_costOf_1 19 rfl rfl)
abbrev cX5_leftOf : ByteArray := prog_21_method_88_code
def yX5_leftOf : MethodName := ⟨RX5, "leftOf", "(II)I"⟩
def dkwX5_leftOf_2 : List UInt8 := [136, 167, 0, 4, 29, 62, 132, 4, 1, 167, 255, 212, 29, 172]
abbrev dktX5_leftOf_2 : List UInt8 := dkwX5_leftOf_2 ++ []
def dkwX5_leftOf_1 : List UInt8 := [126, 4, 160, 0, 26, 29, 133, 42, 180, 0, 17, 17, 2, 42, 21, 4, 96, 46, 133, 105, 20, 1, 30, 109]
abbrev dktX5_leftOf_1 : List UInt8 := dkwX5_leftOf_1 ++ dktX5_leftOf_2
def dkwX5_leftOf_0 : List UInt8 := [42, 27, 182, 1, 75, 17, 39, 16, 104, 62, 3, 54, 4, 21, 4, 7, 162, 0, 44, 28, 21, 4, 122, 4]
abbrev dktX5_leftOf_0 : List UInt8 := dkwX5_leftOf_0 ++ dktX5_leftOf_1
theorem dksX5_leftOf_0 : cX5_leftOf.data.toList.drop 0 = dktX5_leftOf_0 := by decide +kernel
theorem dksX5_leftOf_1 : cX5_leftOf.data.toList.drop 24 = dktX5_leftOf_1 := dk_seg dksX5_leftOf_0 24 rfl rfl
theorem dksX5_leftOf_2 : cX5_leftOf.data.toList.drop 48 = dktX5_leftOf_2 := dk_seg dksX5_leftOf_1 24 rfl rfl
theorem dX5_leftOf_0 : decode cX5_leftOf 0 = .ok (.aload_n 0, 1) := dk_42 (dk_at dksX5_leftOf_0 0 rfl rfl)
theorem dX5_leftOf_1 : decode cX5_leftOf 1 = .ok (.iload_n 1, 1) := dk_27 (dk_at dksX5_leftOf_0 1 rfl rfl)
theorem dX5_leftOf_2 : decode cX5_leftOf 2 = .ok (.invokevirtual 331, 3) := dk_182 1 75 (dk_at dksX5_leftOf_0 2 rfl rfl)
theorem dX5_leftOf_5 : decode cX5_leftOf 5 = .ok (.sipush 10000, 3) := dk_17 39 16 (dk_at dksX5_leftOf_0 5 rfl rfl)
theorem dX5_leftOf_8 : decode cX5_leftOf 8 = .ok (.imul, 1) := dk_104 (dk_at dksX5_leftOf_0 8 rfl rfl)
theorem dX5_leftOf_9 : decode cX5_leftOf 9 = .ok (.istore_n 3, 1) := dk_62 (dk_at dksX5_leftOf_0 9 rfl rfl)
theorem dX5_leftOf_10 : decode cX5_leftOf 10 = .ok (.iconst 0, 1) := dk_3 (dk_at dksX5_leftOf_0 10 rfl rfl)
theorem dX5_leftOf_11 : decode cX5_leftOf 11 = .ok (.istore 4, 2) := dk_54 4 (dk_at dksX5_leftOf_0 11 rfl rfl)
theorem dX5_leftOf_13 : decode cX5_leftOf 13 = .ok (.iload 4, 2) := dk_21 4 (dk_at dksX5_leftOf_0 13 rfl rfl)
theorem dX5_leftOf_15 : decode cX5_leftOf 15 = .ok (.iconst 4, 1) := dk_7 (dk_at dksX5_leftOf_0 15 rfl rfl)
theorem dX5_leftOf_16 : decode cX5_leftOf 16 = .ok (.if_icmp .ge 44, 3) := dk_162 0 44 (dk_at dksX5_leftOf_0 16 rfl rfl)
theorem dX5_leftOf_19 : decode cX5_leftOf 19 = .ok (.iload_n 2, 1) := dk_28 (dk_at dksX5_leftOf_0 19 rfl rfl)
theorem dX5_leftOf_20 : decode cX5_leftOf 20 = .ok (.iload 4, 2) := dk_21 4 (dk_at dksX5_leftOf_0 20 rfl rfl)
theorem dX5_leftOf_22 : decode cX5_leftOf 22 = .ok (.ishr, 1) := dk_122 (dk_at dksX5_leftOf_0 22 rfl rfl)
theorem dX5_leftOf_23 : decode cX5_leftOf 23 = .ok (.iconst 1, 1) := dk_4 (dk_at dksX5_leftOf_0 23 rfl rfl)
theorem dX5_leftOf_24 : decode cX5_leftOf 24 = .ok (.iand, 1) := dk_126 (dk_at dksX5_leftOf_1 0 rfl rfl)
theorem dX5_leftOf_25 : decode cX5_leftOf 25 = .ok (.iconst 1, 1) := dk_4 (dk_at dksX5_leftOf_1 1 rfl rfl)
theorem dX5_leftOf_26 : decode cX5_leftOf 26 = .ok (.if_icmp .ne 26, 3) := dk_160 0 26 (dk_at dksX5_leftOf_1 2 rfl rfl)
theorem dX5_leftOf_29 : decode cX5_leftOf 29 = .ok (.iload_n 3, 1) := dk_29 (dk_at dksX5_leftOf_1 5 rfl rfl)
theorem dX5_leftOf_30 : decode cX5_leftOf 30 = .ok (.i2l, 1) := dk_133 (dk_at dksX5_leftOf_1 6 rfl rfl)
theorem dX5_leftOf_31 : decode cX5_leftOf 31 = .ok (.aload_n 0, 1) := dk_42 (dk_at dksX5_leftOf_1 7 rfl rfl)
theorem dX5_leftOf_32 : decode cX5_leftOf 32 = .ok (.getfield 17, 3) := dk_180 0 17 (dk_at dksX5_leftOf_1 8 rfl rfl)
theorem dX5_leftOf_35 : decode cX5_leftOf 35 = .ok (.sipush 554, 3) := dk_17 2 42 (dk_at dksX5_leftOf_1 11 rfl rfl)
theorem dX5_leftOf_38 : decode cX5_leftOf 38 = .ok (.iload 4, 2) := dk_21 4 (dk_at dksX5_leftOf_1 14 rfl rfl)
theorem dX5_leftOf_40 : decode cX5_leftOf 40 = .ok (.iadd, 1) := dk_96 (dk_at dksX5_leftOf_1 16 rfl rfl)
theorem dX5_leftOf_41 : decode cX5_leftOf 41 = .ok (.iaload, 1) := dk_46 (dk_at dksX5_leftOf_1 17 rfl rfl)
theorem dX5_leftOf_42 : decode cX5_leftOf 42 = .ok (.i2l, 1) := dk_133 (dk_at dksX5_leftOf_1 18 rfl rfl)
theorem dX5_leftOf_43 : decode cX5_leftOf 43 = .ok (.lmul, 1) := dk_105 (dk_at dksX5_leftOf_1 19 rfl rfl)
theorem dX5_leftOf_44 : decode cX5_leftOf 44 = .ok (.ldc2_w 286, 3) := dk_20 1 30 (dk_at dksX5_leftOf_1 20 rfl rfl)
theorem dX5_leftOf_47 : decode cX5_leftOf 47 = .ok (.ldiv, 1) := dk_109 (dk_at dksX5_leftOf_1 23 rfl rfl)
theorem dX5_leftOf_48 : decode cX5_leftOf 48 = .ok (.l2i, 1) := dk_136 (dk_at dksX5_leftOf_2 0 rfl rfl)
theorem dX5_leftOf_49 : decode cX5_leftOf 49 = .ok (.goto 4, 3) := dk_167 0 4 (dk_at dksX5_leftOf_2 1 rfl rfl)
theorem dX5_leftOf_52 : decode cX5_leftOf 52 = .ok (.iload_n 3, 1) := dk_29 (dk_at dksX5_leftOf_2 4 rfl rfl)
theorem dX5_leftOf_53 : decode cX5_leftOf 53 = .ok (.istore_n 3, 1) := dk_62 (dk_at dksX5_leftOf_2 5 rfl rfl)
theorem dX5_leftOf_54 : decode cX5_leftOf 54 = .ok (.iinc 4 1, 3) := dk_132 4 1 (dk_at dksX5_leftOf_2 6 rfl rfl)
theorem dX5_leftOf_57 : decode cX5_leftOf 57 = .ok (.goto (-44), 3) := dk_167 255 212 (dk_at dksX5_leftOf_2 9 rfl rfl)
theorem dX5_leftOf_60 : decode cX5_leftOf 60 = .ok (.iload_n 3, 1) := dk_29 (dk_at dksX5_leftOf_2 12 rfl rfl)
theorem dX5_leftOf_61 : decode cX5_leftOf 61 = .ok (.ireturn, 1) := dk_172 (dk_at dksX5_leftOf_2 13 rfl rfl)
abbrev cX5_isBest : ByteArray := prog_21_method_89_code
def yX5_isBest : MethodName := ⟨RX5, "isBest", "(III)Z"⟩
def dkwX5_isBest_3 : List UInt8 := [42, 180, 0, 67, 27, 17, 3, 232, 104, 28, 96, 46, 160, 0, 7, 4, 167, 0, 4, 3, 172]
abbrev dktX5_isBest_3 : List UInt8 := dkwX5_isBest_3 ++ []
def dkwX5_isBest_2 : List UInt8 := [27, 17, 3, 232, 104, 28, 96, 46, 160, 0, 35, 42, 29, 182, 1, 91, 42, 180, 0, 67, 21, 4, 46, 96]
abbrev dktX5_isBest_2 : List UInt8 := dkwX5_isBest_2 ++ dktX5_isBest_3
def dkwX5_isBest_1 : List UInt8 := [182, 1, 91, 100, 54, 4, 42, 27, 29, 182, 1, 94, 42, 180, 0, 64, 21, 4, 46, 96, 42, 180, 0, 64]
abbrev dktX5_isBest_1 : List UInt8 := dkwX5_isBest_1 ++ dktX5_isBest_2
def dkwX5_isBest_0 : List UInt8 := [42, 29, 182, 1, 91, 28, 164, 0, 5, 3, 172, 27, 4, 96, 17, 3, 232, 104, 28, 96, 42, 29]
abbrev dktX5_isBest_0 : List UInt8 := dkwX5_isBest_0 ++ dktX5_isBest_1
theorem dksX5_isBest_0 : cX5_isBest.data.toList.drop 0 = dktX5_isBest_0 := by decide +kernel
theorem dksX5_isBest_1 : cX5_isBest.data.toList.drop 22 = dktX5_isBest_1 := dk_seg dksX5_isBest_0 22 rfl rfl
theorem dksX5_isBest_2 : cX5_isBest.data.toList.drop 46 = dktX5_isBest_2 := dk_seg dksX5_isBest_1 24 rfl rfl
theorem dksX5_isBest_3 : cX5_isBest.data.toList.drop 70 = dktX5_isBest_3 := dk_seg dksX5_isBest_2 24 rfl rfl
theorem dX5_isBest_0 : decode cX5_isBest 0 = .ok (.aload_n 0, 1) := dk_42 (dk_at dksX5_isBest_0 0 rfl rfl)
theorem dX5_isBest_1 : decode cX5_isBest 1 = .ok (.iload_n 3, 1) := dk_29 (dk_at dksX5_isBest_0 1 rfl rfl)
theorem dX5_isBest_2 : decode cX5_isBest 2 = .ok (.invokevirtual 347, 3) := dk_182 1 91 (dk_at dksX5_isBest_0 2 rfl rfl)
theorem dX5_isBest_5 : decode cX5_isBest 5 = .ok (.iload_n 2, 1) := dk_28 (dk_at dksX5_isBest_0 5 rfl rfl)
theorem dX5_isBest_6 : decode cX5_isBest 6 = .ok (.if_icmp .le 5, 3) := dk_164 0 5 (dk_at dksX5_isBest_0 6 rfl rfl)
theorem dX5_isBest_9 : decode cX5_isBest 9 = .ok (.iconst 0, 1) := dk_3 (dk_at dksX5_isBest_0 9 rfl rfl)
theorem dX5_isBest_10 : decode cX5_isBest 10 = .ok (.ireturn, 1) := dk_172 (dk_at dksX5_isBest_0 10 rfl rfl)
theorem dX5_isBest_11 : decode cX5_isBest 11 = .ok (.iload_n 1, 1) := dk_27 (dk_at dksX5_isBest_0 11 rfl rfl)
theorem dX5_isBest_12 : decode cX5_isBest 12 = .ok (.iconst 1, 1) := dk_4 (dk_at dksX5_isBest_0 12 rfl rfl)
theorem dX5_isBest_13 : decode cX5_isBest 13 = .ok (.iadd, 1) := dk_96 (dk_at dksX5_isBest_0 13 rfl rfl)
theorem dX5_isBest_14 : decode cX5_isBest 14 = .ok (.sipush 1000, 3) := dk_17 3 232 (dk_at dksX5_isBest_0 14 rfl rfl)
theorem dX5_isBest_17 : decode cX5_isBest 17 = .ok (.imul, 1) := dk_104 (dk_at dksX5_isBest_0 17 rfl rfl)
theorem dX5_isBest_18 : decode cX5_isBest 18 = .ok (.iload_n 2, 1) := dk_28 (dk_at dksX5_isBest_0 18 rfl rfl)
theorem dX5_isBest_19 : decode cX5_isBest 19 = .ok (.iadd, 1) := dk_96 (dk_at dksX5_isBest_0 19 rfl rfl)
theorem dX5_isBest_20 : decode cX5_isBest 20 = .ok (.aload_n 0, 1) := dk_42 (dk_at dksX5_isBest_0 20 rfl rfl)
theorem dX5_isBest_21 : decode cX5_isBest 21 = .ok (.iload_n 3, 1) := dk_29 (dk_at dksX5_isBest_0 21 rfl rfl)
theorem dX5_isBest_22 : decode cX5_isBest 22 = .ok (.invokevirtual 347, 3) := dk_182 1 91 (dk_at dksX5_isBest_1 0 rfl rfl)
theorem dX5_isBest_25 : decode cX5_isBest 25 = .ok (.isub, 1) := dk_100 (dk_at dksX5_isBest_1 3 rfl rfl)
theorem dX5_isBest_26 : decode cX5_isBest 26 = .ok (.istore 4, 2) := dk_54 4 (dk_at dksX5_isBest_1 4 rfl rfl)
theorem dX5_isBest_28 : decode cX5_isBest 28 = .ok (.aload_n 0, 1) := dk_42 (dk_at dksX5_isBest_1 6 rfl rfl)
theorem dX5_isBest_29 : decode cX5_isBest 29 = .ok (.iload_n 1, 1) := dk_27 (dk_at dksX5_isBest_1 7 rfl rfl)
theorem dX5_isBest_30 : decode cX5_isBest 30 = .ok (.iload_n 3, 1) := dk_29 (dk_at dksX5_isBest_1 8 rfl rfl)
theorem dX5_isBest_31 : decode cX5_isBest 31 = .ok (.invokevirtual 350, 3) := dk_182 1 94 (dk_at dksX5_isBest_1 9 rfl rfl)
theorem dX5_isBest_34 : decode cX5_isBest 34 = .ok (.aload_n 0, 1) := dk_42 (dk_at dksX5_isBest_1 12 rfl rfl)
theorem dX5_isBest_35 : decode cX5_isBest 35 = .ok (.getfield 64, 3) := dk_180 0 64 (dk_at dksX5_isBest_1 13 rfl rfl)
theorem dX5_isBest_38 : decode cX5_isBest 38 = .ok (.iload 4, 2) := dk_21 4 (dk_at dksX5_isBest_1 16 rfl rfl)
theorem dX5_isBest_40 : decode cX5_isBest 40 = .ok (.iaload, 1) := dk_46 (dk_at dksX5_isBest_1 18 rfl rfl)
theorem dX5_isBest_41 : decode cX5_isBest 41 = .ok (.iadd, 1) := dk_96 (dk_at dksX5_isBest_1 19 rfl rfl)
theorem dX5_isBest_42 : decode cX5_isBest 42 = .ok (.aload_n 0, 1) := dk_42 (dk_at dksX5_isBest_1 20 rfl rfl)
theorem dX5_isBest_43 : decode cX5_isBest 43 = .ok (.getfield 64, 3) := dk_180 0 64 (dk_at dksX5_isBest_1 21 rfl rfl)
theorem dX5_isBest_46 : decode cX5_isBest 46 = .ok (.iload_n 1, 1) := dk_27 (dk_at dksX5_isBest_2 0 rfl rfl)
theorem dX5_isBest_47 : decode cX5_isBest 47 = .ok (.sipush 1000, 3) := dk_17 3 232 (dk_at dksX5_isBest_2 1 rfl rfl)
theorem dX5_isBest_50 : decode cX5_isBest 50 = .ok (.imul, 1) := dk_104 (dk_at dksX5_isBest_2 4 rfl rfl)
theorem dX5_isBest_51 : decode cX5_isBest 51 = .ok (.iload_n 2, 1) := dk_28 (dk_at dksX5_isBest_2 5 rfl rfl)
theorem dX5_isBest_52 : decode cX5_isBest 52 = .ok (.iadd, 1) := dk_96 (dk_at dksX5_isBest_2 6 rfl rfl)
theorem dX5_isBest_53 : decode cX5_isBest 53 = .ok (.iaload, 1) := dk_46 (dk_at dksX5_isBest_2 7 rfl rfl)
theorem dX5_isBest_54 : decode cX5_isBest 54 = .ok (.if_icmp .ne 35, 3) := dk_160 0 35 (dk_at dksX5_isBest_2 8 rfl rfl)
theorem dX5_isBest_57 : decode cX5_isBest 57 = .ok (.aload_n 0, 1) := dk_42 (dk_at dksX5_isBest_2 11 rfl rfl)
theorem dX5_isBest_58 : decode cX5_isBest 58 = .ok (.iload_n 3, 1) := dk_29 (dk_at dksX5_isBest_2 12 rfl rfl)
theorem dX5_isBest_59 : decode cX5_isBest 59 = .ok (.invokevirtual 347, 3) := dk_182 1 91 (dk_at dksX5_isBest_2 13 rfl rfl)
theorem dX5_isBest_62 : decode cX5_isBest 62 = .ok (.aload_n 0, 1) := dk_42 (dk_at dksX5_isBest_2 16 rfl rfl)
theorem dX5_isBest_63 : decode cX5_isBest 63 = .ok (.getfield 67, 3) := dk_180 0 67 (dk_at dksX5_isBest_2 17 rfl rfl)
theorem dX5_isBest_66 : decode cX5_isBest 66 = .ok (.iload 4, 2) := dk_21 4 (dk_at dksX5_isBest_2 20 rfl rfl)
theorem dX5_isBest_68 : decode cX5_isBest 68 = .ok (.iaload, 1) := dk_46 (dk_at dksX5_isBest_2 22 rfl rfl)
theorem dX5_isBest_69 : decode cX5_isBest 69 = .ok (.iadd, 1) := dk_96 (dk_at dksX5_isBest_2 23 rfl rfl)
theorem dX5_isBest_70 : decode cX5_isBest 70 = .ok (.aload_n 0, 1) := dk_42 (dk_at dksX5_isBest_3 0 rfl rfl)
theorem dX5_isBest_71 : decode cX5_isBest 71 = .ok (.getfield 67, 3) := dk_180 0 67 (dk_at dksX5_isBest_3 1 rfl rfl)
theorem dX5_isBest_74 : decode cX5_isBest 74 = .ok (.iload_n 1, 1) := dk_27 (dk_at dksX5_isBest_3 4 rfl rfl)
theorem dX5_isBest_75 : decode cX5_isBest 75 = .ok (.sipush 1000, 3) := dk_17 3 232 (dk_at dksX5_isBest_3 5 rfl rfl)
theorem dX5_isBest_78 : decode cX5_isBest 78 = .ok (.imul, 1) := dk_104 (dk_at dksX5_isBest_3 8 rfl rfl)
theorem dX5_isBest_79 : decode cX5_isBest 79 = .ok (.iload_n 2, 1) := dk_28 (dk_at dksX5_isBest_3 9 rfl rfl)
theorem dX5_isBest_80 : decode cX5_isBest 80 = .ok (.iadd, 1) := dk_96 (dk_at dksX5_isBest_3 10 rfl rfl)
theorem dX5_isBest_81 : decode cX5_isBest 81 = .ok (.iaload, 1) := dk_46 (dk_at dksX5_isBest_3 11 rfl rfl)
theorem dX5_isBest_82 : decode cX5_isBest 82 = .ok (.if_icmp .ne 7, 3) := dk_160 0 7 (dk_at dksX5_isBest_3 12 rfl rfl)
theorem dX5_isBest_85 : decode cX5_isBest 85 = .ok (.iconst 1, 1) := dk_4 (dk_at dksX5_isBest_3 15 rfl rfl)
theorem dX5_isBest_86 : decode cX5_isBest 86 = .ok (.goto 4, 3) := dk_167 0 4 (dk_at dksX5_isBest_3 16 rfl rfl)
theorem dX5_isBest_89 : decode cX5_isBest 89 = .ok (.iconst 0, 1) := dk_3 (dk_at dksX5_isBest_3 19 rfl rfl)
theorem dX5_isBest_90 : decode cX5_isBest 90 = .ok (.ireturn, 1) := dk_172 (dk_at dksX5_isBest_3 20 rfl rfl)
abbrev cX5_fine : ByteArray := prog_21_method_92_code
def yX5_fine : MethodName := ⟨RX5, "fine", "(IIII)I"⟩
def dkwX5_fine_4 : List UInt8 := [167, 255, 232, 21, 5, 172]
abbrev dktX5_fine_4 : List UInt8 := dkwX5_fine_4 ++ []
def dkwX5_fine_3 : List UInt8 := [21, 4, 162, 0, 23, 21, 5, 28, 21, 5, 100, 29, 104, 16, 100, 108, 96, 54, 5, 132, 6, 1]
abbrev dktX5_fine_3 : List UInt8 := dkwX5_fine_3 ++ dktX5_fine_4
def dkwX5_fine_2 : List UInt8 := [20, 0, 221, 184, 0, 152, 154, 0, 10, 42, 16, 253, 182, 0, 89, 172, 27, 54, 5, 3, 54, 6, 21, 6]
abbrev dktX5_fine_2 : List UInt8 := dkwX5_fine_2 ++ dktX5_fine_3
def dkwX5_fine_1 : List UInt8 := [184, 0, 152, 153, 0, 28, 29, 133, 9, 20, 1, 30, 184, 0, 152, 153, 0, 16, 21, 4, 133, 9]
abbrev dktX5_fine_1 : List UInt8 := dkwX5_fine_1 ++ dktX5_fine_2
def dkwX5_fine_0 : List UInt8 := [42, 3, 181, 0, 1, 27, 133, 9, 20, 1, 50, 184, 0, 152, 153, 0, 40, 28, 133, 9, 20, 1, 50]
abbrev dktX5_fine_0 : List UInt8 := dkwX5_fine_0 ++ dktX5_fine_1
theorem dksX5_fine_0 : cX5_fine.data.toList.drop 0 = dktX5_fine_0 := by decide +kernel
theorem dksX5_fine_1 : cX5_fine.data.toList.drop 23 = dktX5_fine_1 := dk_seg dksX5_fine_0 23 rfl rfl
theorem dksX5_fine_2 : cX5_fine.data.toList.drop 45 = dktX5_fine_2 := dk_seg dksX5_fine_1 22 rfl rfl
theorem dksX5_fine_3 : cX5_fine.data.toList.drop 69 = dktX5_fine_3 := dk_seg dksX5_fine_2 24 rfl rfl
theorem dksX5_fine_4 : cX5_fine.data.toList.drop 91 = dktX5_fine_4 := dk_seg dksX5_fine_3 22 rfl rfl
theorem dX5_fine_0 : decode cX5_fine 0 = .ok (.aload_n 0, 1) := dk_42 (dk_at dksX5_fine_0 0 rfl rfl)
theorem dX5_fine_1 : decode cX5_fine 1 = .ok (.iconst 0, 1) := dk_3 (dk_at dksX5_fine_0 1 rfl rfl)
theorem dX5_fine_2 : decode cX5_fine 2 = .ok (.putfield 1, 3) := dk_181 0 1 (dk_at dksX5_fine_0 2 rfl rfl)
theorem dX5_fine_5 : decode cX5_fine 5 = .ok (.iload_n 1, 1) := dk_27 (dk_at dksX5_fine_0 5 rfl rfl)
theorem dX5_fine_6 : decode cX5_fine 6 = .ok (.i2l, 1) := dk_133 (dk_at dksX5_fine_0 6 rfl rfl)
theorem dX5_fine_7 : decode cX5_fine 7 = .ok (.lconst 0, 1) := dk_9 (dk_at dksX5_fine_0 7 rfl rfl)
theorem dX5_fine_8 : decode cX5_fine 8 = .ok (.ldc2_w 306, 3) := dk_20 1 50 (dk_at dksX5_fine_0 8 rfl rfl)
theorem dX5_fine_11 : decode cX5_fine 11 = .ok (.invokestatic 152, 3) := dk_184 0 152 (dk_at dksX5_fine_0 11 rfl rfl)
theorem dX5_fine_14 : decode cX5_fine 14 = .ok (.ifCond .eq 40, 3) := dk_153 0 40 (dk_at dksX5_fine_0 14 rfl rfl)
theorem dX5_fine_17 : decode cX5_fine 17 = .ok (.iload_n 2, 1) := dk_28 (dk_at dksX5_fine_0 17 rfl rfl)
theorem dX5_fine_18 : decode cX5_fine 18 = .ok (.i2l, 1) := dk_133 (dk_at dksX5_fine_0 18 rfl rfl)
theorem dX5_fine_19 : decode cX5_fine 19 = .ok (.lconst 0, 1) := dk_9 (dk_at dksX5_fine_0 19 rfl rfl)
theorem dX5_fine_20 : decode cX5_fine 20 = .ok (.ldc2_w 306, 3) := dk_20 1 50 (dk_at dksX5_fine_0 20 rfl rfl)
theorem dX5_fine_23 : decode cX5_fine 23 = .ok (.invokestatic 152, 3) := dk_184 0 152 (dk_at dksX5_fine_1 0 rfl rfl)
theorem dX5_fine_26 : decode cX5_fine 26 = .ok (.ifCond .eq 28, 3) := dk_153 0 28 (dk_at dksX5_fine_1 3 rfl rfl)
theorem dX5_fine_29 : decode cX5_fine 29 = .ok (.iload_n 3, 1) := dk_29 (dk_at dksX5_fine_1 6 rfl rfl)
theorem dX5_fine_30 : decode cX5_fine 30 = .ok (.i2l, 1) := dk_133 (dk_at dksX5_fine_1 7 rfl rfl)
theorem dX5_fine_31 : decode cX5_fine 31 = .ok (.lconst 0, 1) := dk_9 (dk_at dksX5_fine_1 8 rfl rfl)
theorem dX5_fine_32 : decode cX5_fine 32 = .ok (.ldc2_w 286, 3) := dk_20 1 30 (dk_at dksX5_fine_1 9 rfl rfl)
theorem dX5_fine_35 : decode cX5_fine 35 = .ok (.invokestatic 152, 3) := dk_184 0 152 (dk_at dksX5_fine_1 12 rfl rfl)
theorem dX5_fine_38 : decode cX5_fine 38 = .ok (.ifCond .eq 16, 3) := dk_153 0 16 (dk_at dksX5_fine_1 15 rfl rfl)
theorem dX5_fine_41 : decode cX5_fine 41 = .ok (.iload 4, 2) := dk_21 4 (dk_at dksX5_fine_1 18 rfl rfl)
theorem dX5_fine_43 : decode cX5_fine 43 = .ok (.i2l, 1) := dk_133 (dk_at dksX5_fine_1 20 rfl rfl)
theorem dX5_fine_44 : decode cX5_fine 44 = .ok (.lconst 0, 1) := dk_9 (dk_at dksX5_fine_1 21 rfl rfl)
theorem dX5_fine_45 : decode cX5_fine 45 = .ok (.ldc2_w 221, 3) := dk_20 0 221 (dk_at dksX5_fine_2 0 rfl rfl)
theorem dX5_fine_48 : decode cX5_fine 48 = .ok (.invokestatic 152, 3) := dk_184 0 152 (dk_at dksX5_fine_2 3 rfl rfl)
theorem dX5_fine_51 : decode cX5_fine 51 = .ok (.ifCond .ne 10, 3) := dk_154 0 10 (dk_at dksX5_fine_2 6 rfl rfl)
theorem dX5_fine_54 : decode cX5_fine 54 = .ok (.aload_n 0, 1) := dk_42 (dk_at dksX5_fine_2 9 rfl rfl)
theorem dX5_fine_55 : decode cX5_fine 55 = .ok (.bipush (-3), 2) := dk_16 253 (dk_at dksX5_fine_2 10 rfl rfl)
theorem dX5_fine_57 : decode cX5_fine 57 = .ok (.invokevirtual 89, 3) := dk_182 0 89 (dk_at dksX5_fine_2 12 rfl rfl)
theorem dX5_fine_60 : decode cX5_fine 60 = .ok (.ireturn, 1) := dk_172 (dk_at dksX5_fine_2 15 rfl rfl)
theorem dX5_fine_61 : decode cX5_fine 61 = .ok (.iload_n 1, 1) := dk_27 (dk_at dksX5_fine_2 16 rfl rfl)
theorem dX5_fine_62 : decode cX5_fine 62 = .ok (.istore 5, 2) := dk_54 5 (dk_at dksX5_fine_2 17 rfl rfl)
theorem dX5_fine_64 : decode cX5_fine 64 = .ok (.iconst 0, 1) := dk_3 (dk_at dksX5_fine_2 19 rfl rfl)
theorem dX5_fine_65 : decode cX5_fine 65 = .ok (.istore 6, 2) := dk_54 6 (dk_at dksX5_fine_2 20 rfl rfl)
theorem dX5_fine_67 : decode cX5_fine 67 = .ok (.iload 6, 2) := dk_21 6 (dk_at dksX5_fine_2 22 rfl rfl)
theorem dX5_fine_69 : decode cX5_fine 69 = .ok (.iload 4, 2) := dk_21 4 (dk_at dksX5_fine_3 0 rfl rfl)
theorem dX5_fine_71 : decode cX5_fine 71 = .ok (.if_icmp .ge 23, 3) := dk_162 0 23 (dk_at dksX5_fine_3 2 rfl rfl)
theorem dX5_fine_74 : decode cX5_fine 74 = .ok (.iload 5, 2) := dk_21 5 (dk_at dksX5_fine_3 5 rfl rfl)
theorem dX5_fine_76 : decode cX5_fine 76 = .ok (.iload_n 2, 1) := dk_28 (dk_at dksX5_fine_3 7 rfl rfl)
theorem dX5_fine_77 : decode cX5_fine 77 = .ok (.iload 5, 2) := dk_21 5 (dk_at dksX5_fine_3 8 rfl rfl)
theorem dX5_fine_79 : decode cX5_fine 79 = .ok (.isub, 1) := dk_100 (dk_at dksX5_fine_3 10 rfl rfl)
theorem dX5_fine_80 : decode cX5_fine 80 = .ok (.iload_n 3, 1) := dk_29 (dk_at dksX5_fine_3 11 rfl rfl)
theorem dX5_fine_81 : decode cX5_fine 81 = .ok (.imul, 1) := dk_104 (dk_at dksX5_fine_3 12 rfl rfl)
theorem dX5_fine_82 : decode cX5_fine 82 = .ok (.bipush 100, 2) := dk_16 100 (dk_at dksX5_fine_3 13 rfl rfl)
theorem dX5_fine_84 : decode cX5_fine 84 = .ok (.idiv, 1) := dk_108 (dk_at dksX5_fine_3 15 rfl rfl)
theorem dX5_fine_85 : decode cX5_fine 85 = .ok (.iadd, 1) := dk_96 (dk_at dksX5_fine_3 16 rfl rfl)
theorem dX5_fine_86 : decode cX5_fine 86 = .ok (.istore 5, 2) := dk_54 5 (dk_at dksX5_fine_3 17 rfl rfl)
theorem dX5_fine_88 : decode cX5_fine 88 = .ok (.iinc 6 1, 3) := dk_132 6 1 (dk_at dksX5_fine_3 19 rfl rfl)
theorem dX5_fine_91 : decode cX5_fine 91 = .ok (.goto (-24), 3) := dk_167 255 232 (dk_at dksX5_fine_4 0 rfl rfl)
theorem dX5_fine_94 : decode cX5_fine 94 = .ok (.iload 5, 2) := dk_21 5 (dk_at dksX5_fine_4 3 rfl rfl)
theorem dX5_fine_96 : decode cX5_fine 96 = .ok (.ireturn, 1) := dk_172 (dk_at dksX5_fine_4 5 rfl rfl)
abbrev cX5_until : ByteArray := prog_21_method_93_code
def yX5_until : MethodName := ⟨RX5, "until", "(IIII)I"⟩
def dkwX5_until_5 : List UInt8 := [172]
abbrev dktX5_until_5 : List UInt8 := dkwX5_until_5 ++ []
def dkwX5_until_4 : List UInt8 := [21, 6, 172, 21, 5, 28, 21, 5, 100, 29, 104, 16, 100, 108, 96, 54, 5, 132, 6, 1, 167, 255, 210, 2]
abbrev dktX5_until_4 : List UInt8 := dkwX5_until_4 ++ dktX5_until_5
def dkwX5_until_3 : List UInt8 := [17, 3, 232, 162, 0, 44, 21, 5, 28, 100, 133, 21, 4, 116, 133, 21, 4, 133, 184, 0, 152, 153, 0, 6]
abbrev dktX5_until_3 : List UInt8 := dkwX5_until_3 ++ dktX5_until_4
def dkwX5_until_2 : List UInt8 := [20, 1, 50, 184, 0, 152, 154, 0, 10, 42, 16, 253, 182, 0, 89, 172, 27, 54, 5, 3, 54, 6, 21, 6]
abbrev dktX5_until_2 : List UInt8 := dkwX5_until_2 ++ dktX5_until_3
def dkwX5_until_1 : List UInt8 := [184, 0, 152, 153, 0, 28, 29, 133, 9, 20, 1, 30, 184, 0, 152, 153, 0, 16, 21, 4, 133, 9]
abbrev dktX5_until_1 : List UInt8 := dkwX5_until_1 ++ dktX5_until_2
def dkwX5_until_0 : List UInt8 := [42, 3, 181, 0, 1, 27, 133, 9, 20, 1, 50, 184, 0, 152, 153, 0, 40, 28, 133, 9, 20, 1, 50]
abbrev dktX5_until_0 : List UInt8 := dkwX5_until_0 ++ dktX5_until_1
theorem dksX5_until_0 : cX5_until.data.toList.drop 0 = dktX5_until_0 := by decide +kernel
theorem dksX5_until_1 : cX5_until.data.toList.drop 23 = dktX5_until_1 := dk_seg dksX5_until_0 23 rfl rfl
theorem dksX5_until_2 : cX5_until.data.toList.drop 45 = dktX5_until_2 := dk_seg dksX5_until_1 22 rfl rfl
theorem dksX5_until_3 : cX5_until.data.toList.drop 69 = dktX5_until_3 := dk_seg dksX5_until_2 24 rfl rfl
theorem dksX5_until_4 : cX5_until.data.toList.drop 93 = dktX5_until_4 := dk_seg dksX5_until_3 24 rfl rfl
theorem dksX5_until_5 : cX5_until.data.toList.drop 117 = dktX5_until_5 := dk_seg dksX5_until_4 24 rfl rfl
theorem dX5_until_0 : decode cX5_until 0 = .ok (.aload_n 0, 1) := dk_42 (dk_at dksX5_until_0 0 rfl rfl)
theorem dX5_until_1 : decode cX5_until 1 = .ok (.iconst 0, 1) := dk_3 (dk_at dksX5_until_0 1 rfl rfl)
theorem dX5_until_2 : decode cX5_until 2 = .ok (.putfield 1, 3) := dk_181 0 1 (dk_at dksX5_until_0 2 rfl rfl)
theorem dX5_until_5 : decode cX5_until 5 = .ok (.iload_n 1, 1) := dk_27 (dk_at dksX5_until_0 5 rfl rfl)
theorem dX5_until_6 : decode cX5_until 6 = .ok (.i2l, 1) := dk_133 (dk_at dksX5_until_0 6 rfl rfl)
theorem dX5_until_7 : decode cX5_until 7 = .ok (.lconst 0, 1) := dk_9 (dk_at dksX5_until_0 7 rfl rfl)
theorem dX5_until_8 : decode cX5_until 8 = .ok (.ldc2_w 306, 3) := dk_20 1 50 (dk_at dksX5_until_0 8 rfl rfl)
theorem dX5_until_11 : decode cX5_until 11 = .ok (.invokestatic 152, 3) := dk_184 0 152 (dk_at dksX5_until_0 11 rfl rfl)
theorem dX5_until_14 : decode cX5_until 14 = .ok (.ifCond .eq 40, 3) := dk_153 0 40 (dk_at dksX5_until_0 14 rfl rfl)
theorem dX5_until_17 : decode cX5_until 17 = .ok (.iload_n 2, 1) := dk_28 (dk_at dksX5_until_0 17 rfl rfl)
theorem dX5_until_18 : decode cX5_until 18 = .ok (.i2l, 1) := dk_133 (dk_at dksX5_until_0 18 rfl rfl)
theorem dX5_until_19 : decode cX5_until 19 = .ok (.lconst 0, 1) := dk_9 (dk_at dksX5_until_0 19 rfl rfl)
theorem dX5_until_20 : decode cX5_until 20 = .ok (.ldc2_w 306, 3) := dk_20 1 50 (dk_at dksX5_until_0 20 rfl rfl)
theorem dX5_until_23 : decode cX5_until 23 = .ok (.invokestatic 152, 3) := dk_184 0 152 (dk_at dksX5_until_1 0 rfl rfl)
theorem dX5_until_26 : decode cX5_until 26 = .ok (.ifCond .eq 28, 3) := dk_153 0 28 (dk_at dksX5_until_1 3 rfl rfl)
theorem dX5_until_29 : decode cX5_until 29 = .ok (.iload_n 3, 1) := dk_29 (dk_at dksX5_until_1 6 rfl rfl)
theorem dX5_until_30 : decode cX5_until 30 = .ok (.i2l, 1) := dk_133 (dk_at dksX5_until_1 7 rfl rfl)
theorem dX5_until_31 : decode cX5_until 31 = .ok (.lconst 0, 1) := dk_9 (dk_at dksX5_until_1 8 rfl rfl)
theorem dX5_until_32 : decode cX5_until 32 = .ok (.ldc2_w 286, 3) := dk_20 1 30 (dk_at dksX5_until_1 9 rfl rfl)
theorem dX5_until_35 : decode cX5_until 35 = .ok (.invokestatic 152, 3) := dk_184 0 152 (dk_at dksX5_until_1 12 rfl rfl)
theorem dX5_until_38 : decode cX5_until 38 = .ok (.ifCond .eq 16, 3) := dk_153 0 16 (dk_at dksX5_until_1 15 rfl rfl)
theorem dX5_until_41 : decode cX5_until 41 = .ok (.iload 4, 2) := dk_21 4 (dk_at dksX5_until_1 18 rfl rfl)
theorem dX5_until_43 : decode cX5_until 43 = .ok (.i2l, 1) := dk_133 (dk_at dksX5_until_1 20 rfl rfl)
theorem dX5_until_44 : decode cX5_until 44 = .ok (.lconst 0, 1) := dk_9 (dk_at dksX5_until_1 21 rfl rfl)
theorem dX5_until_45 : decode cX5_until 45 = .ok (.ldc2_w 306, 3) := dk_20 1 50 (dk_at dksX5_until_2 0 rfl rfl)
theorem dX5_until_48 : decode cX5_until 48 = .ok (.invokestatic 152, 3) := dk_184 0 152 (dk_at dksX5_until_2 3 rfl rfl)
theorem dX5_until_51 : decode cX5_until 51 = .ok (.ifCond .ne 10, 3) := dk_154 0 10 (dk_at dksX5_until_2 6 rfl rfl)
theorem dX5_until_54 : decode cX5_until 54 = .ok (.aload_n 0, 1) := dk_42 (dk_at dksX5_until_2 9 rfl rfl)
theorem dX5_until_55 : decode cX5_until 55 = .ok (.bipush (-3), 2) := dk_16 253 (dk_at dksX5_until_2 10 rfl rfl)
theorem dX5_until_57 : decode cX5_until 57 = .ok (.invokevirtual 89, 3) := dk_182 0 89 (dk_at dksX5_until_2 12 rfl rfl)
theorem dX5_until_60 : decode cX5_until 60 = .ok (.ireturn, 1) := dk_172 (dk_at dksX5_until_2 15 rfl rfl)
theorem dX5_until_61 : decode cX5_until 61 = .ok (.iload_n 1, 1) := dk_27 (dk_at dksX5_until_2 16 rfl rfl)
theorem dX5_until_62 : decode cX5_until 62 = .ok (.istore 5, 2) := dk_54 5 (dk_at dksX5_until_2 17 rfl rfl)
theorem dX5_until_64 : decode cX5_until 64 = .ok (.iconst 0, 1) := dk_3 (dk_at dksX5_until_2 19 rfl rfl)
theorem dX5_until_65 : decode cX5_until 65 = .ok (.istore 6, 2) := dk_54 6 (dk_at dksX5_until_2 20 rfl rfl)
theorem dX5_until_67 : decode cX5_until 67 = .ok (.iload 6, 2) := dk_21 6 (dk_at dksX5_until_2 22 rfl rfl)
theorem dX5_until_69 : decode cX5_until 69 = .ok (.sipush 1000, 3) := dk_17 3 232 (dk_at dksX5_until_3 0 rfl rfl)
theorem dX5_until_72 : decode cX5_until 72 = .ok (.if_icmp .ge 44, 3) := dk_162 0 44 (dk_at dksX5_until_3 3 rfl rfl)
theorem dX5_until_75 : decode cX5_until 75 = .ok (.iload 5, 2) := dk_21 5 (dk_at dksX5_until_3 6 rfl rfl)
theorem dX5_until_77 : decode cX5_until 77 = .ok (.iload_n 2, 1) := dk_28 (dk_at dksX5_until_3 8 rfl rfl)
theorem dX5_until_78 : decode cX5_until 78 = .ok (.isub, 1) := dk_100 (dk_at dksX5_until_3 9 rfl rfl)
theorem dX5_until_79 : decode cX5_until 79 = .ok (.i2l, 1) := dk_133 (dk_at dksX5_until_3 10 rfl rfl)
theorem dX5_until_80 : decode cX5_until 80 = .ok (.iload 4, 2) := dk_21 4 (dk_at dksX5_until_3 11 rfl rfl)
theorem dX5_until_82 : decode cX5_until 82 = .ok (.ineg, 1) := dk_116 (dk_at dksX5_until_3 13 rfl rfl)
theorem dX5_until_83 : decode cX5_until 83 = .ok (.i2l, 1) := dk_133 (dk_at dksX5_until_3 14 rfl rfl)
theorem dX5_until_84 : decode cX5_until 84 = .ok (.iload 4, 2) := dk_21 4 (dk_at dksX5_until_3 15 rfl rfl)
theorem dX5_until_86 : decode cX5_until 86 = .ok (.i2l, 1) := dk_133 (dk_at dksX5_until_3 17 rfl rfl)
theorem dX5_until_87 : decode cX5_until 87 = .ok (.invokestatic 152, 3) := dk_184 0 152 (dk_at dksX5_until_3 18 rfl rfl)
theorem dX5_until_90 : decode cX5_until 90 = .ok (.ifCond .eq 6, 3) := dk_153 0 6 (dk_at dksX5_until_3 21 rfl rfl)
theorem dX5_until_93 : decode cX5_until 93 = .ok (.iload 6, 2) := dk_21 6 (dk_at dksX5_until_4 0 rfl rfl)
theorem dX5_until_95 : decode cX5_until 95 = .ok (.ireturn, 1) := dk_172 (dk_at dksX5_until_4 2 rfl rfl)
theorem dX5_until_96 : decode cX5_until 96 = .ok (.iload 5, 2) := dk_21 5 (dk_at dksX5_until_4 3 rfl rfl)
theorem dX5_until_98 : decode cX5_until 98 = .ok (.iload_n 2, 1) := dk_28 (dk_at dksX5_until_4 5 rfl rfl)
theorem dX5_until_99 : decode cX5_until 99 = .ok (.iload 5, 2) := dk_21 5 (dk_at dksX5_until_4 6 rfl rfl)
theorem dX5_until_101 : decode cX5_until 101 = .ok (.isub, 1) := dk_100 (dk_at dksX5_until_4 8 rfl rfl)
theorem dX5_until_102 : decode cX5_until 102 = .ok (.iload_n 3, 1) := dk_29 (dk_at dksX5_until_4 9 rfl rfl)
theorem dX5_until_103 : decode cX5_until 103 = .ok (.imul, 1) := dk_104 (dk_at dksX5_until_4 10 rfl rfl)
theorem dX5_until_104 : decode cX5_until 104 = .ok (.bipush 100, 2) := dk_16 100 (dk_at dksX5_until_4 11 rfl rfl)
theorem dX5_until_106 : decode cX5_until 106 = .ok (.idiv, 1) := dk_108 (dk_at dksX5_until_4 13 rfl rfl)
theorem dX5_until_107 : decode cX5_until 107 = .ok (.iadd, 1) := dk_96 (dk_at dksX5_until_4 14 rfl rfl)
theorem dX5_until_108 : decode cX5_until 108 = .ok (.istore 5, 2) := dk_54 5 (dk_at dksX5_until_4 15 rfl rfl)
theorem dX5_until_110 : decode cX5_until 110 = .ok (.iinc 6 1, 3) := dk_132 6 1 (dk_at dksX5_until_4 17 rfl rfl)
theorem dX5_until_113 : decode cX5_until 113 = .ok (.goto (-46), 3) := dk_167 255 210 (dk_at dksX5_until_4 20 rfl rfl)
theorem dX5_until_116 : decode cX5_until 116 = .ok (.iconst (-1), 1) := dk_2 (dk_at dksX5_until_4 23 rfl rfl)
theorem dX5_until_117 : decode cX5_until 117 = .ok (.ireturn, 1) := dk_172 (dk_at dksX5_until_5 0 rfl rfl)
abbrev cX5_lot : ByteArray := prog_21_method_94_code
def yX5_lot : MethodName := ⟨RX5, "lot", "(II)I"⟩
def dkwX5_lot_4 : List UInt8 := [132, 7, 1, 167, 255, 231, 2, 172]
abbrev dktX5_lot_4 : List UInt8 := dkwX5_lot_4 ++ []
def dkwX5_lot_3 : List UInt8 := [54, 7, 21, 7, 17, 39, 15, 163, 0, 23, 21, 7, 133, 33, 105, 22, 5, 148, 155, 0, 6, 21, 7, 172]
abbrev dktX5_lot_3 : List UInt8 := dkwX5_lot_3 ++ dktX5_lot_4
def dkwX5_lot_2 : List UInt8 := [20, 1, 105, 27, 17, 3, 232, 27, 100, 104, 28, 17, 3, 232, 28, 100, 104, 96, 133, 105, 55, 5, 4]
abbrev dktX5_lot_2 : List UInt8 := dkwX5_lot_2 ++ dktX5_lot_3
def dkwX5_lot_1 : List UInt8 := [184, 0, 152, 154, 0, 10, 42, 16, 253, 182, 0, 89, 172, 27, 28, 100, 133, 27, 28, 100, 133, 105, 66]
abbrev dktX5_lot_1 : List UInt8 := dkwX5_lot_1 ++ dktX5_lot_2
def dkwX5_lot_0 : List UInt8 := [42, 3, 181, 0, 1, 27, 133, 9, 20, 1, 50, 184, 0, 152, 153, 0, 15, 28, 133, 9, 20, 1, 50]
abbrev dktX5_lot_0 : List UInt8 := dkwX5_lot_0 ++ dktX5_lot_1
theorem dksX5_lot_0 : cX5_lot.data.toList.drop 0 = dktX5_lot_0 := by decide +kernel
theorem dksX5_lot_1 : cX5_lot.data.toList.drop 23 = dktX5_lot_1 := dk_seg dksX5_lot_0 23 rfl rfl
theorem dksX5_lot_2 : cX5_lot.data.toList.drop 46 = dktX5_lot_2 := dk_seg dksX5_lot_1 23 rfl rfl
theorem dksX5_lot_3 : cX5_lot.data.toList.drop 69 = dktX5_lot_3 := dk_seg dksX5_lot_2 23 rfl rfl
theorem dksX5_lot_4 : cX5_lot.data.toList.drop 93 = dktX5_lot_4 := dk_seg dksX5_lot_3 24 rfl rfl
theorem dX5_lot_0 : decode cX5_lot 0 = .ok (.aload_n 0, 1) := dk_42 (dk_at dksX5_lot_0 0 rfl rfl)
theorem dX5_lot_1 : decode cX5_lot 1 = .ok (.iconst 0, 1) := dk_3 (dk_at dksX5_lot_0 1 rfl rfl)
theorem dX5_lot_2 : decode cX5_lot 2 = .ok (.putfield 1, 3) := dk_181 0 1 (dk_at dksX5_lot_0 2 rfl rfl)
theorem dX5_lot_5 : decode cX5_lot 5 = .ok (.iload_n 1, 1) := dk_27 (dk_at dksX5_lot_0 5 rfl rfl)
theorem dX5_lot_6 : decode cX5_lot 6 = .ok (.i2l, 1) := dk_133 (dk_at dksX5_lot_0 6 rfl rfl)
theorem dX5_lot_7 : decode cX5_lot 7 = .ok (.lconst 0, 1) := dk_9 (dk_at dksX5_lot_0 7 rfl rfl)
theorem dX5_lot_8 : decode cX5_lot 8 = .ok (.ldc2_w 306, 3) := dk_20 1 50 (dk_at dksX5_lot_0 8 rfl rfl)
theorem dX5_lot_11 : decode cX5_lot 11 = .ok (.invokestatic 152, 3) := dk_184 0 152 (dk_at dksX5_lot_0 11 rfl rfl)
theorem dX5_lot_14 : decode cX5_lot 14 = .ok (.ifCond .eq 15, 3) := dk_153 0 15 (dk_at dksX5_lot_0 14 rfl rfl)
theorem dX5_lot_17 : decode cX5_lot 17 = .ok (.iload_n 2, 1) := dk_28 (dk_at dksX5_lot_0 17 rfl rfl)
theorem dX5_lot_18 : decode cX5_lot 18 = .ok (.i2l, 1) := dk_133 (dk_at dksX5_lot_0 18 rfl rfl)
theorem dX5_lot_19 : decode cX5_lot 19 = .ok (.lconst 0, 1) := dk_9 (dk_at dksX5_lot_0 19 rfl rfl)
theorem dX5_lot_20 : decode cX5_lot 20 = .ok (.ldc2_w 306, 3) := dk_20 1 50 (dk_at dksX5_lot_0 20 rfl rfl)
theorem dX5_lot_23 : decode cX5_lot 23 = .ok (.invokestatic 152, 3) := dk_184 0 152 (dk_at dksX5_lot_1 0 rfl rfl)
theorem dX5_lot_26 : decode cX5_lot 26 = .ok (.ifCond .ne 10, 3) := dk_154 0 10 (dk_at dksX5_lot_1 3 rfl rfl)
theorem dX5_lot_29 : decode cX5_lot 29 = .ok (.aload_n 0, 1) := dk_42 (dk_at dksX5_lot_1 6 rfl rfl)
theorem dX5_lot_30 : decode cX5_lot 30 = .ok (.bipush (-3), 2) := dk_16 253 (dk_at dksX5_lot_1 7 rfl rfl)
theorem dX5_lot_32 : decode cX5_lot 32 = .ok (.invokevirtual 89, 3) := dk_182 0 89 (dk_at dksX5_lot_1 9 rfl rfl)
theorem dX5_lot_35 : decode cX5_lot 35 = .ok (.ireturn, 1) := dk_172 (dk_at dksX5_lot_1 12 rfl rfl)
theorem dX5_lot_36 : decode cX5_lot 36 = .ok (.iload_n 1, 1) := dk_27 (dk_at dksX5_lot_1 13 rfl rfl)
theorem dX5_lot_37 : decode cX5_lot 37 = .ok (.iload_n 2, 1) := dk_28 (dk_at dksX5_lot_1 14 rfl rfl)
theorem dX5_lot_38 : decode cX5_lot 38 = .ok (.isub, 1) := dk_100 (dk_at dksX5_lot_1 15 rfl rfl)
theorem dX5_lot_39 : decode cX5_lot 39 = .ok (.i2l, 1) := dk_133 (dk_at dksX5_lot_1 16 rfl rfl)
theorem dX5_lot_40 : decode cX5_lot 40 = .ok (.iload_n 1, 1) := dk_27 (dk_at dksX5_lot_1 17 rfl rfl)
theorem dX5_lot_41 : decode cX5_lot 41 = .ok (.iload_n 2, 1) := dk_28 (dk_at dksX5_lot_1 18 rfl rfl)
theorem dX5_lot_42 : decode cX5_lot 42 = .ok (.isub, 1) := dk_100 (dk_at dksX5_lot_1 19 rfl rfl)
theorem dX5_lot_43 : decode cX5_lot 43 = .ok (.i2l, 1) := dk_133 (dk_at dksX5_lot_1 20 rfl rfl)
theorem dX5_lot_44 : decode cX5_lot 44 = .ok (.lmul, 1) := dk_105 (dk_at dksX5_lot_1 21 rfl rfl)
theorem dX5_lot_45 : decode cX5_lot 45 = .ok (.lstore_n 3, 1) := dk_66 (dk_at dksX5_lot_1 22 rfl rfl)
theorem dX5_lot_46 : decode cX5_lot 46 = .ok (.ldc2_w 361, 3) := dk_20 1 105 (dk_at dksX5_lot_2 0 rfl rfl)
theorem dX5_lot_49 : decode cX5_lot 49 = .ok (.iload_n 1, 1) := dk_27 (dk_at dksX5_lot_2 3 rfl rfl)
theorem dX5_lot_50 : decode cX5_lot 50 = .ok (.sipush 1000, 3) := dk_17 3 232 (dk_at dksX5_lot_2 4 rfl rfl)
theorem dX5_lot_53 : decode cX5_lot 53 = .ok (.iload_n 1, 1) := dk_27 (dk_at dksX5_lot_2 7 rfl rfl)
theorem dX5_lot_54 : decode cX5_lot 54 = .ok (.isub, 1) := dk_100 (dk_at dksX5_lot_2 8 rfl rfl)
theorem dX5_lot_55 : decode cX5_lot 55 = .ok (.imul, 1) := dk_104 (dk_at dksX5_lot_2 9 rfl rfl)
theorem dX5_lot_56 : decode cX5_lot 56 = .ok (.iload_n 2, 1) := dk_28 (dk_at dksX5_lot_2 10 rfl rfl)
theorem dX5_lot_57 : decode cX5_lot 57 = .ok (.sipush 1000, 3) := dk_17 3 232 (dk_at dksX5_lot_2 11 rfl rfl)
theorem dX5_lot_60 : decode cX5_lot 60 = .ok (.iload_n 2, 1) := dk_28 (dk_at dksX5_lot_2 14 rfl rfl)
theorem dX5_lot_61 : decode cX5_lot 61 = .ok (.isub, 1) := dk_100 (dk_at dksX5_lot_2 15 rfl rfl)
theorem dX5_lot_62 : decode cX5_lot 62 = .ok (.imul, 1) := dk_104 (dk_at dksX5_lot_2 16 rfl rfl)
theorem dX5_lot_63 : decode cX5_lot 63 = .ok (.iadd, 1) := dk_96 (dk_at dksX5_lot_2 17 rfl rfl)
theorem dX5_lot_64 : decode cX5_lot 64 = .ok (.i2l, 1) := dk_133 (dk_at dksX5_lot_2 18 rfl rfl)
theorem dX5_lot_65 : decode cX5_lot 65 = .ok (.lmul, 1) := dk_105 (dk_at dksX5_lot_2 19 rfl rfl)
theorem dX5_lot_66 : decode cX5_lot 66 = .ok (.lstore 5, 2) := dk_55 5 (dk_at dksX5_lot_2 20 rfl rfl)
theorem dX5_lot_68 : decode cX5_lot 68 = .ok (.iconst 1, 1) := dk_4 (dk_at dksX5_lot_2 22 rfl rfl)
theorem dX5_lot_69 : decode cX5_lot 69 = .ok (.istore 7, 2) := dk_54 7 (dk_at dksX5_lot_3 0 rfl rfl)
theorem dX5_lot_71 : decode cX5_lot 71 = .ok (.iload 7, 2) := dk_21 7 (dk_at dksX5_lot_3 2 rfl rfl)
theorem dX5_lot_73 : decode cX5_lot 73 = .ok (.sipush 9999, 3) := dk_17 39 15 (dk_at dksX5_lot_3 4 rfl rfl)
theorem dX5_lot_76 : decode cX5_lot 76 = .ok (.if_icmp .gt 23, 3) := dk_163 0 23 (dk_at dksX5_lot_3 7 rfl rfl)
theorem dX5_lot_79 : decode cX5_lot 79 = .ok (.iload 7, 2) := dk_21 7 (dk_at dksX5_lot_3 10 rfl rfl)
theorem dX5_lot_81 : decode cX5_lot 81 = .ok (.i2l, 1) := dk_133 (dk_at dksX5_lot_3 12 rfl rfl)
theorem dX5_lot_82 : decode cX5_lot 82 = .ok (.lload_n 3, 1) := dk_33 (dk_at dksX5_lot_3 13 rfl rfl)
theorem dX5_lot_83 : decode cX5_lot 83 = .ok (.lmul, 1) := dk_105 (dk_at dksX5_lot_3 14 rfl rfl)
theorem dX5_lot_84 : decode cX5_lot 84 = .ok (.lload 5, 2) := dk_22 5 (dk_at dksX5_lot_3 15 rfl rfl)
theorem dX5_lot_86 : decode cX5_lot 86 = .ok (.lcmp, 1) := dk_148 (dk_at dksX5_lot_3 17 rfl rfl)
theorem dX5_lot_87 : decode cX5_lot 87 = .ok (.ifCond .lt 6, 3) := dk_155 0 6 (dk_at dksX5_lot_3 18 rfl rfl)
theorem dX5_lot_90 : decode cX5_lot 90 = .ok (.iload 7, 2) := dk_21 7 (dk_at dksX5_lot_3 21 rfl rfl)
theorem dX5_lot_92 : decode cX5_lot 92 = .ok (.ireturn, 1) := dk_172 (dk_at dksX5_lot_3 23 rfl rfl)
theorem dX5_lot_93 : decode cX5_lot 93 = .ok (.iinc 7 1, 3) := dk_132 7 1 (dk_at dksX5_lot_4 0 rfl rfl)
theorem dX5_lot_96 : decode cX5_lot 96 = .ok (.goto (-25), 3) := dk_167 255 231 (dk_at dksX5_lot_4 3 rfl rfl)
theorem dX5_lot_99 : decode cX5_lot 99 = .ok (.iconst (-1), 1) := dk_2 (dk_at dksX5_lot_4 6 rfl rfl)
theorem dX5_lot_100 : decode cX5_lot 100 = .ok (.ireturn, 1) := dk_172 (dk_at dksX5_lot_4 7 rfl rfl)
abbrev cX5_shown : ByteArray := prog_21_method_95_code
def yX5_shown : MethodName := ⟨RX5, "shown", "(IIII)I"⟩
def dkwX5_shown_6 : List UInt8 := [167, 0, 4, 3, 172]
abbrev dktX5_shown_6 : List UInt8 := dkwX5_shown_6 ++ []
def dkwX5_shown_5 : List UInt8 := [153, 0, 25, 22, 5, 22, 5, 105, 28, 133, 105, 21, 4, 133, 105, 22, 7, 148, 155, 0, 7, 4]
abbrev dktX5_shown_5 : List UInt8 := dkwX5_shown_5 ++ dktX5_shown_6
def dkwX5_shown_4 : List UInt8 := [21, 4, 29, 100, 133, 105, 28, 133, 105, 28, 133, 105, 28, 133, 105, 97, 105, 55, 7, 22, 5, 9, 148]
abbrev dktX5_shown_4 : List UInt8 := dkwX5_shown_4 ++ dktX5_shown_5
def dkwX5_shown_3 : List UInt8 := [20, 1, 105, 27, 133, 28, 27, 100, 133, 105, 21, 4, 133, 105, 21, 4, 133, 105, 21, 4, 133, 105, 29, 133]
abbrev dktX5_shown_3 : List UInt8 := dkwX5_shown_3 ++ dktX5_shown_4
def dkwX5_shown_2 : List UInt8 := [184, 0, 152, 154, 0, 10, 42, 16, 253, 182, 0, 89, 172, 27, 21, 4, 104, 29, 28, 104, 100, 133, 55, 5]
abbrev dktX5_shown_2 : List UInt8 := dkwX5_shown_2 ++ dktX5_shown_3
def dkwX5_shown_1 : List UInt8 := [184, 0, 152, 153, 0, 26, 27, 133, 9, 28, 133, 184, 0, 152, 153, 0, 15, 29, 133, 9, 21, 4, 133]
abbrev dktX5_shown_1 : List UInt8 := dkwX5_shown_1 ++ dktX5_shown_2
def dkwX5_shown_0 : List UInt8 := [42, 3, 181, 0, 1, 28, 133, 10, 20, 1, 58, 184, 0, 152, 153, 0, 39, 21, 4, 133, 10, 20, 1, 58]
abbrev dktX5_shown_0 : List UInt8 := dkwX5_shown_0 ++ dktX5_shown_1
theorem dksX5_shown_0 : cX5_shown.data.toList.drop 0 = dktX5_shown_0 := by decide +kernel
theorem dksX5_shown_1 : cX5_shown.data.toList.drop 24 = dktX5_shown_1 := dk_seg dksX5_shown_0 24 rfl rfl
theorem dksX5_shown_2 : cX5_shown.data.toList.drop 47 = dktX5_shown_2 := dk_seg dksX5_shown_1 23 rfl rfl
theorem dksX5_shown_3 : cX5_shown.data.toList.drop 71 = dktX5_shown_3 := dk_seg dksX5_shown_2 24 rfl rfl
theorem dksX5_shown_4 : cX5_shown.data.toList.drop 95 = dktX5_shown_4 := dk_seg dksX5_shown_3 24 rfl rfl
theorem dksX5_shown_5 : cX5_shown.data.toList.drop 118 = dktX5_shown_5 := dk_seg dksX5_shown_4 23 rfl rfl
theorem dksX5_shown_6 : cX5_shown.data.toList.drop 140 = dktX5_shown_6 := dk_seg dksX5_shown_5 22 rfl rfl
theorem dX5_shown_0 : decode cX5_shown 0 = .ok (.aload_n 0, 1) := dk_42 (dk_at dksX5_shown_0 0 rfl rfl)
theorem dX5_shown_1 : decode cX5_shown 1 = .ok (.iconst 0, 1) := dk_3 (dk_at dksX5_shown_0 1 rfl rfl)
theorem dX5_shown_2 : decode cX5_shown 2 = .ok (.putfield 1, 3) := dk_181 0 1 (dk_at dksX5_shown_0 2 rfl rfl)
theorem dX5_shown_5 : decode cX5_shown 5 = .ok (.iload_n 2, 1) := dk_28 (dk_at dksX5_shown_0 5 rfl rfl)
theorem dX5_shown_6 : decode cX5_shown 6 = .ok (.i2l, 1) := dk_133 (dk_at dksX5_shown_0 6 rfl rfl)
theorem dX5_shown_7 : decode cX5_shown 7 = .ok (.lconst 1, 1) := dk_10 (dk_at dksX5_shown_0 7 rfl rfl)
theorem dX5_shown_8 : decode cX5_shown 8 = .ok (.ldc2_w 314, 3) := dk_20 1 58 (dk_at dksX5_shown_0 8 rfl rfl)
theorem dX5_shown_11 : decode cX5_shown 11 = .ok (.invokestatic 152, 3) := dk_184 0 152 (dk_at dksX5_shown_0 11 rfl rfl)
theorem dX5_shown_14 : decode cX5_shown 14 = .ok (.ifCond .eq 39, 3) := dk_153 0 39 (dk_at dksX5_shown_0 14 rfl rfl)
theorem dX5_shown_17 : decode cX5_shown 17 = .ok (.iload 4, 2) := dk_21 4 (dk_at dksX5_shown_0 17 rfl rfl)
theorem dX5_shown_19 : decode cX5_shown 19 = .ok (.i2l, 1) := dk_133 (dk_at dksX5_shown_0 19 rfl rfl)
theorem dX5_shown_20 : decode cX5_shown 20 = .ok (.lconst 1, 1) := dk_10 (dk_at dksX5_shown_0 20 rfl rfl)
theorem dX5_shown_21 : decode cX5_shown 21 = .ok (.ldc2_w 314, 3) := dk_20 1 58 (dk_at dksX5_shown_0 21 rfl rfl)
theorem dX5_shown_24 : decode cX5_shown 24 = .ok (.invokestatic 152, 3) := dk_184 0 152 (dk_at dksX5_shown_1 0 rfl rfl)
theorem dX5_shown_27 : decode cX5_shown 27 = .ok (.ifCond .eq 26, 3) := dk_153 0 26 (dk_at dksX5_shown_1 3 rfl rfl)
theorem dX5_shown_30 : decode cX5_shown 30 = .ok (.iload_n 1, 1) := dk_27 (dk_at dksX5_shown_1 6 rfl rfl)
theorem dX5_shown_31 : decode cX5_shown 31 = .ok (.i2l, 1) := dk_133 (dk_at dksX5_shown_1 7 rfl rfl)
theorem dX5_shown_32 : decode cX5_shown 32 = .ok (.lconst 0, 1) := dk_9 (dk_at dksX5_shown_1 8 rfl rfl)
theorem dX5_shown_33 : decode cX5_shown 33 = .ok (.iload_n 2, 1) := dk_28 (dk_at dksX5_shown_1 9 rfl rfl)
theorem dX5_shown_34 : decode cX5_shown 34 = .ok (.i2l, 1) := dk_133 (dk_at dksX5_shown_1 10 rfl rfl)
theorem dX5_shown_35 : decode cX5_shown 35 = .ok (.invokestatic 152, 3) := dk_184 0 152 (dk_at dksX5_shown_1 11 rfl rfl)
theorem dX5_shown_38 : decode cX5_shown 38 = .ok (.ifCond .eq 15, 3) := dk_153 0 15 (dk_at dksX5_shown_1 14 rfl rfl)
theorem dX5_shown_41 : decode cX5_shown 41 = .ok (.iload_n 3, 1) := dk_29 (dk_at dksX5_shown_1 17 rfl rfl)
theorem dX5_shown_42 : decode cX5_shown 42 = .ok (.i2l, 1) := dk_133 (dk_at dksX5_shown_1 18 rfl rfl)
theorem dX5_shown_43 : decode cX5_shown 43 = .ok (.lconst 0, 1) := dk_9 (dk_at dksX5_shown_1 19 rfl rfl)
theorem dX5_shown_44 : decode cX5_shown 44 = .ok (.iload 4, 2) := dk_21 4 (dk_at dksX5_shown_1 20 rfl rfl)
theorem dX5_shown_46 : decode cX5_shown 46 = .ok (.i2l, 1) := dk_133 (dk_at dksX5_shown_1 22 rfl rfl)
theorem dX5_shown_47 : decode cX5_shown 47 = .ok (.invokestatic 152, 3) := dk_184 0 152 (dk_at dksX5_shown_2 0 rfl rfl)
theorem dX5_shown_50 : decode cX5_shown 50 = .ok (.ifCond .ne 10, 3) := dk_154 0 10 (dk_at dksX5_shown_2 3 rfl rfl)
theorem dX5_shown_53 : decode cX5_shown 53 = .ok (.aload_n 0, 1) := dk_42 (dk_at dksX5_shown_2 6 rfl rfl)
theorem dX5_shown_54 : decode cX5_shown 54 = .ok (.bipush (-3), 2) := dk_16 253 (dk_at dksX5_shown_2 7 rfl rfl)
theorem dX5_shown_56 : decode cX5_shown 56 = .ok (.invokevirtual 89, 3) := dk_182 0 89 (dk_at dksX5_shown_2 9 rfl rfl)
theorem dX5_shown_59 : decode cX5_shown 59 = .ok (.ireturn, 1) := dk_172 (dk_at dksX5_shown_2 12 rfl rfl)
theorem dX5_shown_60 : decode cX5_shown 60 = .ok (.iload_n 1, 1) := dk_27 (dk_at dksX5_shown_2 13 rfl rfl)
theorem dX5_shown_61 : decode cX5_shown 61 = .ok (.iload 4, 2) := dk_21 4 (dk_at dksX5_shown_2 14 rfl rfl)
theorem dX5_shown_63 : decode cX5_shown 63 = .ok (.imul, 1) := dk_104 (dk_at dksX5_shown_2 16 rfl rfl)
theorem dX5_shown_64 : decode cX5_shown 64 = .ok (.iload_n 3, 1) := dk_29 (dk_at dksX5_shown_2 17 rfl rfl)
theorem dX5_shown_65 : decode cX5_shown 65 = .ok (.iload_n 2, 1) := dk_28 (dk_at dksX5_shown_2 18 rfl rfl)
theorem dX5_shown_66 : decode cX5_shown 66 = .ok (.imul, 1) := dk_104 (dk_at dksX5_shown_2 19 rfl rfl)
theorem dX5_shown_67 : decode cX5_shown 67 = .ok (.isub, 1) := dk_100 (dk_at dksX5_shown_2 20 rfl rfl)
theorem dX5_shown_68 : decode cX5_shown 68 = .ok (.i2l, 1) := dk_133 (dk_at dksX5_shown_2 21 rfl rfl)
theorem dX5_shown_69 : decode cX5_shown 69 = .ok (.lstore 5, 2) := dk_55 5 (dk_at dksX5_shown_2 22 rfl rfl)
theorem dX5_shown_71 : decode cX5_shown 71 = .ok (.ldc2_w 361, 3) := dk_20 1 105 (dk_at dksX5_shown_3 0 rfl rfl)
theorem dX5_shown_74 : decode cX5_shown 74 = .ok (.iload_n 1, 1) := dk_27 (dk_at dksX5_shown_3 3 rfl rfl)
theorem dX5_shown_75 : decode cX5_shown 75 = .ok (.i2l, 1) := dk_133 (dk_at dksX5_shown_3 4 rfl rfl)
theorem dX5_shown_76 : decode cX5_shown 76 = .ok (.iload_n 2, 1) := dk_28 (dk_at dksX5_shown_3 5 rfl rfl)
theorem dX5_shown_77 : decode cX5_shown 77 = .ok (.iload_n 1, 1) := dk_27 (dk_at dksX5_shown_3 6 rfl rfl)
theorem dX5_shown_78 : decode cX5_shown 78 = .ok (.isub, 1) := dk_100 (dk_at dksX5_shown_3 7 rfl rfl)
theorem dX5_shown_79 : decode cX5_shown 79 = .ok (.i2l, 1) := dk_133 (dk_at dksX5_shown_3 8 rfl rfl)
theorem dX5_shown_80 : decode cX5_shown 80 = .ok (.lmul, 1) := dk_105 (dk_at dksX5_shown_3 9 rfl rfl)
theorem dX5_shown_81 : decode cX5_shown 81 = .ok (.iload 4, 2) := dk_21 4 (dk_at dksX5_shown_3 10 rfl rfl)
theorem dX5_shown_83 : decode cX5_shown 83 = .ok (.i2l, 1) := dk_133 (dk_at dksX5_shown_3 12 rfl rfl)
theorem dX5_shown_84 : decode cX5_shown 84 = .ok (.lmul, 1) := dk_105 (dk_at dksX5_shown_3 13 rfl rfl)
theorem dX5_shown_85 : decode cX5_shown 85 = .ok (.iload 4, 2) := dk_21 4 (dk_at dksX5_shown_3 14 rfl rfl)
theorem dX5_shown_87 : decode cX5_shown 87 = .ok (.i2l, 1) := dk_133 (dk_at dksX5_shown_3 16 rfl rfl)
theorem dX5_shown_88 : decode cX5_shown 88 = .ok (.lmul, 1) := dk_105 (dk_at dksX5_shown_3 17 rfl rfl)
theorem dX5_shown_89 : decode cX5_shown 89 = .ok (.iload 4, 2) := dk_21 4 (dk_at dksX5_shown_3 18 rfl rfl)
theorem dX5_shown_91 : decode cX5_shown 91 = .ok (.i2l, 1) := dk_133 (dk_at dksX5_shown_3 20 rfl rfl)
theorem dX5_shown_92 : decode cX5_shown 92 = .ok (.lmul, 1) := dk_105 (dk_at dksX5_shown_3 21 rfl rfl)
theorem dX5_shown_93 : decode cX5_shown 93 = .ok (.iload_n 3, 1) := dk_29 (dk_at dksX5_shown_3 22 rfl rfl)
theorem dX5_shown_94 : decode cX5_shown 94 = .ok (.i2l, 1) := dk_133 (dk_at dksX5_shown_3 23 rfl rfl)
theorem dX5_shown_95 : decode cX5_shown 95 = .ok (.iload 4, 2) := dk_21 4 (dk_at dksX5_shown_4 0 rfl rfl)
theorem dX5_shown_97 : decode cX5_shown 97 = .ok (.iload_n 3, 1) := dk_29 (dk_at dksX5_shown_4 2 rfl rfl)
theorem dX5_shown_98 : decode cX5_shown 98 = .ok (.isub, 1) := dk_100 (dk_at dksX5_shown_4 3 rfl rfl)
theorem dX5_shown_99 : decode cX5_shown 99 = .ok (.i2l, 1) := dk_133 (dk_at dksX5_shown_4 4 rfl rfl)
theorem dX5_shown_100 : decode cX5_shown 100 = .ok (.lmul, 1) := dk_105 (dk_at dksX5_shown_4 5 rfl rfl)
theorem dX5_shown_101 : decode cX5_shown 101 = .ok (.iload_n 2, 1) := dk_28 (dk_at dksX5_shown_4 6 rfl rfl)
theorem dX5_shown_102 : decode cX5_shown 102 = .ok (.i2l, 1) := dk_133 (dk_at dksX5_shown_4 7 rfl rfl)
theorem dX5_shown_103 : decode cX5_shown 103 = .ok (.lmul, 1) := dk_105 (dk_at dksX5_shown_4 8 rfl rfl)
theorem dX5_shown_104 : decode cX5_shown 104 = .ok (.iload_n 2, 1) := dk_28 (dk_at dksX5_shown_4 9 rfl rfl)
theorem dX5_shown_105 : decode cX5_shown 105 = .ok (.i2l, 1) := dk_133 (dk_at dksX5_shown_4 10 rfl rfl)
theorem dX5_shown_106 : decode cX5_shown 106 = .ok (.lmul, 1) := dk_105 (dk_at dksX5_shown_4 11 rfl rfl)
theorem dX5_shown_107 : decode cX5_shown 107 = .ok (.iload_n 2, 1) := dk_28 (dk_at dksX5_shown_4 12 rfl rfl)
theorem dX5_shown_108 : decode cX5_shown 108 = .ok (.i2l, 1) := dk_133 (dk_at dksX5_shown_4 13 rfl rfl)
theorem dX5_shown_109 : decode cX5_shown 109 = .ok (.lmul, 1) := dk_105 (dk_at dksX5_shown_4 14 rfl rfl)
theorem dX5_shown_110 : decode cX5_shown 110 = .ok (.ladd, 1) := dk_97 (dk_at dksX5_shown_4 15 rfl rfl)
theorem dX5_shown_111 : decode cX5_shown 111 = .ok (.lmul, 1) := dk_105 (dk_at dksX5_shown_4 16 rfl rfl)
theorem dX5_shown_112 : decode cX5_shown 112 = .ok (.lstore 7, 2) := dk_55 7 (dk_at dksX5_shown_4 17 rfl rfl)
theorem dX5_shown_114 : decode cX5_shown 114 = .ok (.lload 5, 2) := dk_22 5 (dk_at dksX5_shown_4 19 rfl rfl)
theorem dX5_shown_116 : decode cX5_shown 116 = .ok (.lconst 0, 1) := dk_9 (dk_at dksX5_shown_4 21 rfl rfl)
theorem dX5_shown_117 : decode cX5_shown 117 = .ok (.lcmp, 1) := dk_148 (dk_at dksX5_shown_4 22 rfl rfl)
theorem dX5_shown_118 : decode cX5_shown 118 = .ok (.ifCond .eq 25, 3) := dk_153 0 25 (dk_at dksX5_shown_5 0 rfl rfl)
theorem dX5_shown_121 : decode cX5_shown 121 = .ok (.lload 5, 2) := dk_22 5 (dk_at dksX5_shown_5 3 rfl rfl)
theorem dX5_shown_123 : decode cX5_shown 123 = .ok (.lload 5, 2) := dk_22 5 (dk_at dksX5_shown_5 5 rfl rfl)
theorem dX5_shown_125 : decode cX5_shown 125 = .ok (.lmul, 1) := dk_105 (dk_at dksX5_shown_5 7 rfl rfl)
theorem dX5_shown_126 : decode cX5_shown 126 = .ok (.iload_n 2, 1) := dk_28 (dk_at dksX5_shown_5 8 rfl rfl)
theorem dX5_shown_127 : decode cX5_shown 127 = .ok (.i2l, 1) := dk_133 (dk_at dksX5_shown_5 9 rfl rfl)
theorem dX5_shown_128 : decode cX5_shown 128 = .ok (.lmul, 1) := dk_105 (dk_at dksX5_shown_5 10 rfl rfl)
theorem dX5_shown_129 : decode cX5_shown 129 = .ok (.iload 4, 2) := dk_21 4 (dk_at dksX5_shown_5 11 rfl rfl)
theorem dX5_shown_131 : decode cX5_shown 131 = .ok (.i2l, 1) := dk_133 (dk_at dksX5_shown_5 13 rfl rfl)
theorem dX5_shown_132 : decode cX5_shown 132 = .ok (.lmul, 1) := dk_105 (dk_at dksX5_shown_5 14 rfl rfl)
theorem dX5_shown_133 : decode cX5_shown 133 = .ok (.lload 7, 2) := dk_22 7 (dk_at dksX5_shown_5 15 rfl rfl)
theorem dX5_shown_135 : decode cX5_shown 135 = .ok (.lcmp, 1) := dk_148 (dk_at dksX5_shown_5 17 rfl rfl)
theorem dX5_shown_136 : decode cX5_shown 136 = .ok (.ifCond .lt 7, 3) := dk_155 0 7 (dk_at dksX5_shown_5 18 rfl rfl)
theorem dX5_shown_139 : decode cX5_shown 139 = .ok (.iconst 1, 1) := dk_4 (dk_at dksX5_shown_5 21 rfl rfl)
theorem dX5_shown_140 : decode cX5_shown 140 = .ok (.goto 4, 3) := dk_167 0 4 (dk_at dksX5_shown_6 0 rfl rfl)
theorem dX5_shown_143 : decode cX5_shown 143 = .ok (.iconst 0, 1) := dk_3 (dk_at dksX5_shown_6 3 rfl rfl)
theorem dX5_shown_144 : decode cX5_shown 144 = .ok (.ireturn, 1) := dk_172 (dk_at dksX5_shown_6 4 rfl rfl)
abbrev cX5_clumps : ByteArray := prog_21_method_96_code
def yX5_clumps : MethodName := ⟨RX5, "clumps", "(IIII)I"⟩
def dkwX5_clumps_15 : List UInt8 := [167, 0, 16, 21, 4, 4, 160, 0, 8, 21, 6, 167, 0, 5, 21, 7, 172]
abbrev dktX5_clumps_15 : List UInt8 := dkwX5_clumps_15 ++ []
def dkwX5_clumps_14 : List UInt8 := [153, 0, 7, 4, 167, 0, 4, 3, 96, 54, 7, 132, 8, 1, 167, 255, 143, 21, 4, 154, 0, 8, 21, 5]
abbrev dktX5_clumps_14 : List UInt8 := dkwX5_clumps_14 ++ dktX5_clumps_15
def dkwX5_clumps_13 : List UInt8 := [167, 255, 200, 21, 9, 21, 6, 164, 0, 8, 21, 9, 167, 0, 5, 21, 6, 54, 6, 21, 7, 21, 10]
abbrev dktX5_clumps_13 : List UInt8 := dkwX5_clumps_13 ++ dktX5_clumps_14
def dkwX5_clumps_12 : List UInt8 := [21, 10, 153, 0, 14, 21, 11, 21, 8, 161, 0, 7, 4, 167, 0, 4, 3, 54, 10, 132, 11, 1]
abbrev dktX5_clumps_12 : List UInt8 := dkwX5_clumps_12 ++ dktX5_clumps_13
def dkwX5_clumps_11 : List UInt8 := [42, 180, 0, 70, 21, 11, 46, 42, 180, 0, 70, 21, 8, 46, 159, 0, 6, 167, 0, 25, 132, 9, 1]
abbrev dktX5_clumps_11 : List UInt8 := dkwX5_clumps_11 ++ dktX5_clumps_12
def dkwX5_clumps_10 : List UInt8 := [46, 162, 0, 108, 3, 54, 9, 4, 54, 10, 3, 54, 11, 21, 11, 42, 180, 0, 76, 27, 46, 162, 0, 51]
abbrev dktX5_clumps_10 : List UInt8 := dkwX5_clumps_10 ++ dktX5_clumps_11
def dkwX5_clumps_9 : List UInt8 := [54, 5, 132, 6, 1, 167, 255, 183, 3, 54, 6, 3, 54, 7, 3, 54, 8, 21, 8, 42, 180, 0, 76, 27]
abbrev dktX5_clumps_9 : List UInt8 := dkwX5_clumps_9 ++ dktX5_clumps_10
def dkwX5_clumps_8 : List UInt8 := [21, 7, 28, 96, 21, 7, 28, 112, 100, 79, 21, 5, 42, 180, 0, 70, 21, 6, 46, 21, 7, 100, 96]
abbrev dktX5_clumps_8 : List UInt8 := dkwX5_clumps_8 ++ dktX5_clumps_9
def dkwX5_clumps_7 : List UInt8 := [47, 136, 54, 7, 42, 180, 0, 70, 21, 6, 21, 7, 28, 112, 29, 162, 0, 8, 21, 7, 167, 0, 12]
abbrev dktX5_clumps_7 : List UInt8 := dkwX5_clumps_7 ++ dktX5_clumps_8
def dkwX5_clumps_6 : List UInt8 := [54, 6, 21, 6, 42, 180, 0, 76, 27, 46, 162, 0, 68, 42, 180, 0, 79, 16, 40, 27, 104, 21, 6, 96]
abbrev dktX5_clumps_6 : List UInt8 := dkwX5_clumps_6 ++ dktX5_clumps_7
def dkwX5_clumps_5 : List UInt8 := [184, 0, 152, 154, 0, 10, 42, 16, 253, 182, 0, 89, 172, 132, 5, 1, 167, 255, 213, 3, 54, 5, 3]
abbrev dktX5_clumps_5 : List UInt8 := dkwX5_clumps_5 ++ dktX5_clumps_6
def dkwX5_clumps_4 : List UInt8 := [180, 0, 76, 27, 46, 162, 0, 38, 42, 180, 0, 79, 16, 40, 27, 104, 21, 5, 96, 47, 9, 20, 1, 109]
abbrev dktX5_clumps_4 : List UInt8 := dkwX5_clumps_4 ++ dktX5_clumps_5
def dkwX5_clumps_3 : List UInt8 := [4, 100, 133, 184, 0, 152, 154, 0, 10, 42, 16, 253, 182, 0, 89, 172, 3, 54, 5, 21, 5, 42]
abbrev dktX5_clumps_3 : List UInt8 := dkwX5_clumps_3 ++ dktX5_clumps_4
def dkwX5_clumps_2 : List UInt8 := [16, 250, 182, 0, 89, 172, 28, 133, 20, 1, 107, 20, 1, 97, 184, 0, 152, 153, 0, 16, 29, 133, 10, 28]
abbrev dktX5_clumps_2 : List UInt8 := dkwX5_clumps_2 ++ dktX5_clumps_3
def dkwX5_clumps_1 : List UInt8 := [184, 0, 152, 154, 0, 10, 42, 16, 254, 182, 0, 89, 172, 42, 180, 0, 73, 27, 46, 2, 160, 0, 10, 42]
abbrev dktX5_clumps_1 : List UInt8 := dkwX5_clumps_1 ++ dktX5_clumps_2
def dkwX5_clumps_0 : List UInt8 := [42, 3, 181, 0, 1, 27, 133, 9, 20, 0, 213, 184, 0, 152, 153, 0, 16, 21, 4, 133, 9, 20, 1, 107]
abbrev dktX5_clumps_0 : List UInt8 := dkwX5_clumps_0 ++ dktX5_clumps_1
theorem dksX5_clumps_0 : cX5_clumps.data.toList.drop 0 = dktX5_clumps_0 := by decide +kernel
theorem dksX5_clumps_1 : cX5_clumps.data.toList.drop 24 = dktX5_clumps_1 := dk_seg dksX5_clumps_0 24 rfl rfl
theorem dksX5_clumps_2 : cX5_clumps.data.toList.drop 48 = dktX5_clumps_2 := dk_seg dksX5_clumps_1 24 rfl rfl
theorem dksX5_clumps_3 : cX5_clumps.data.toList.drop 72 = dktX5_clumps_3 := dk_seg dksX5_clumps_2 24 rfl rfl
theorem dksX5_clumps_4 : cX5_clumps.data.toList.drop 94 = dktX5_clumps_4 := dk_seg dksX5_clumps_3 22 rfl rfl
theorem dksX5_clumps_5 : cX5_clumps.data.toList.drop 118 = dktX5_clumps_5 := dk_seg dksX5_clumps_4 24 rfl rfl
theorem dksX5_clumps_6 : cX5_clumps.data.toList.drop 141 = dktX5_clumps_6 := dk_seg dksX5_clumps_5 23 rfl rfl
theorem dksX5_clumps_7 : cX5_clumps.data.toList.drop 165 = dktX5_clumps_7 := dk_seg dksX5_clumps_6 24 rfl rfl
theorem dksX5_clumps_8 : cX5_clumps.data.toList.drop 188 = dktX5_clumps_8 := dk_seg dksX5_clumps_7 23 rfl rfl
theorem dksX5_clumps_9 : cX5_clumps.data.toList.drop 211 = dktX5_clumps_9 := dk_seg dksX5_clumps_8 23 rfl rfl
theorem dksX5_clumps_10 : cX5_clumps.data.toList.drop 235 = dktX5_clumps_10 := dk_seg dksX5_clumps_9 24 rfl rfl
theorem dksX5_clumps_11 : cX5_clumps.data.toList.drop 259 = dktX5_clumps_11 := dk_seg dksX5_clumps_10 24 rfl rfl
theorem dksX5_clumps_12 : cX5_clumps.data.toList.drop 282 = dktX5_clumps_12 := dk_seg dksX5_clumps_11 23 rfl rfl
theorem dksX5_clumps_13 : cX5_clumps.data.toList.drop 304 = dktX5_clumps_13 := dk_seg dksX5_clumps_12 22 rfl rfl
theorem dksX5_clumps_14 : cX5_clumps.data.toList.drop 327 = dktX5_clumps_14 := dk_seg dksX5_clumps_13 23 rfl rfl
theorem dksX5_clumps_15 : cX5_clumps.data.toList.drop 351 = dktX5_clumps_15 := dk_seg dksX5_clumps_14 24 rfl rfl
theorem dX5_clumps_0 : decode cX5_clumps 0 = .ok (.aload_n 0, 1) := dk_42 (dk_at dksX5_clumps_0 0 rfl rfl)
theorem dX5_clumps_1 : decode cX5_clumps 1 = .ok (.iconst 0, 1) := dk_3 (dk_at dksX5_clumps_0 1 rfl rfl)
theorem dX5_clumps_2 : decode cX5_clumps 2 = .ok (.putfield 1, 3) := dk_181 0 1 (dk_at dksX5_clumps_0 2 rfl rfl)
theorem dX5_clumps_5 : decode cX5_clumps 5 = .ok (.iload_n 1, 1) := dk_27 (dk_at dksX5_clumps_0 5 rfl rfl)
theorem dX5_clumps_6 : decode cX5_clumps 6 = .ok (.i2l, 1) := dk_133 (dk_at dksX5_clumps_0 6 rfl rfl)
theorem dX5_clumps_7 : decode cX5_clumps 7 = .ok (.lconst 0, 1) := dk_9 (dk_at dksX5_clumps_0 7 rfl rfl)
theorem dX5_clumps_8 : decode cX5_clumps 8 = .ok (.ldc2_w 213, 3) := dk_20 0 213 (dk_at dksX5_clumps_0 8 rfl rfl)
theorem dX5_clumps_11 : decode cX5_clumps 11 = .ok (.invokestatic 152, 3) := dk_184 0 152 (dk_at dksX5_clumps_0 11 rfl rfl)
theorem dX5_clumps_14 : decode cX5_clumps 14 = .ok (.ifCond .eq 16, 3) := dk_153 0 16 (dk_at dksX5_clumps_0 14 rfl rfl)
theorem dX5_clumps_17 : decode cX5_clumps 17 = .ok (.iload 4, 2) := dk_21 4 (dk_at dksX5_clumps_0 17 rfl rfl)
theorem dX5_clumps_19 : decode cX5_clumps 19 = .ok (.i2l, 1) := dk_133 (dk_at dksX5_clumps_0 19 rfl rfl)
theorem dX5_clumps_20 : decode cX5_clumps 20 = .ok (.lconst 0, 1) := dk_9 (dk_at dksX5_clumps_0 20 rfl rfl)
theorem dX5_clumps_21 : decode cX5_clumps 21 = .ok (.ldc2_w 363, 3) := dk_20 1 107 (dk_at dksX5_clumps_0 21 rfl rfl)
theorem dX5_clumps_24 : decode cX5_clumps 24 = .ok (.invokestatic 152, 3) := dk_184 0 152 (dk_at dksX5_clumps_1 0 rfl rfl)
theorem dX5_clumps_27 : decode cX5_clumps 27 = .ok (.ifCond .ne 10, 3) := dk_154 0 10 (dk_at dksX5_clumps_1 3 rfl rfl)
theorem dX5_clumps_30 : decode cX5_clumps 30 = .ok (.aload_n 0, 1) := dk_42 (dk_at dksX5_clumps_1 6 rfl rfl)
theorem dX5_clumps_31 : decode cX5_clumps 31 = .ok (.bipush (-2), 2) := dk_16 254 (dk_at dksX5_clumps_1 7 rfl rfl)
theorem dX5_clumps_33 : decode cX5_clumps 33 = .ok (.invokevirtual 89, 3) := dk_182 0 89 (dk_at dksX5_clumps_1 9 rfl rfl)
theorem dX5_clumps_36 : decode cX5_clumps 36 = .ok (.ireturn, 1) := dk_172 (dk_at dksX5_clumps_1 12 rfl rfl)
theorem dX5_clumps_37 : decode cX5_clumps 37 = .ok (.aload_n 0, 1) := dk_42 (dk_at dksX5_clumps_1 13 rfl rfl)
theorem dX5_clumps_38 : decode cX5_clumps 38 = .ok (.getfield 73, 3) := dk_180 0 73 (dk_at dksX5_clumps_1 14 rfl rfl)
theorem dX5_clumps_41 : decode cX5_clumps 41 = .ok (.iload_n 1, 1) := dk_27 (dk_at dksX5_clumps_1 17 rfl rfl)
theorem dX5_clumps_42 : decode cX5_clumps 42 = .ok (.iaload, 1) := dk_46 (dk_at dksX5_clumps_1 18 rfl rfl)
theorem dX5_clumps_43 : decode cX5_clumps 43 = .ok (.iconst (-1), 1) := dk_2 (dk_at dksX5_clumps_1 19 rfl rfl)
theorem dX5_clumps_44 : decode cX5_clumps 44 = .ok (.if_icmp .ne 10, 3) := dk_160 0 10 (dk_at dksX5_clumps_1 20 rfl rfl)
theorem dX5_clumps_47 : decode cX5_clumps 47 = .ok (.aload_n 0, 1) := dk_42 (dk_at dksX5_clumps_1 23 rfl rfl)
theorem dX5_clumps_48 : decode cX5_clumps 48 = .ok (.bipush (-6), 2) := dk_16 250 (dk_at dksX5_clumps_2 0 rfl rfl)
theorem dX5_clumps_50 : decode cX5_clumps 50 = .ok (.invokevirtual 89, 3) := dk_182 0 89 (dk_at dksX5_clumps_2 2 rfl rfl)
theorem dX5_clumps_53 : decode cX5_clumps 53 = .ok (.ireturn, 1) := dk_172 (dk_at dksX5_clumps_2 5 rfl rfl)
theorem dX5_clumps_54 : decode cX5_clumps 54 = .ok (.iload_n 2, 1) := dk_28 (dk_at dksX5_clumps_2 6 rfl rfl)
theorem dX5_clumps_55 : decode cX5_clumps 55 = .ok (.i2l, 1) := dk_133 (dk_at dksX5_clumps_2 7 rfl rfl)
theorem dX5_clumps_56 : decode cX5_clumps 56 = .ok (.ldc2_w 363, 3) := dk_20 1 107 (dk_at dksX5_clumps_2 8 rfl rfl)
theorem dX5_clumps_59 : decode cX5_clumps 59 = .ok (.ldc2_w 353, 3) := dk_20 1 97 (dk_at dksX5_clumps_2 11 rfl rfl)
theorem dX5_clumps_62 : decode cX5_clumps 62 = .ok (.invokestatic 152, 3) := dk_184 0 152 (dk_at dksX5_clumps_2 14 rfl rfl)
theorem dX5_clumps_65 : decode cX5_clumps 65 = .ok (.ifCond .eq 16, 3) := dk_153 0 16 (dk_at dksX5_clumps_2 17 rfl rfl)
theorem dX5_clumps_68 : decode cX5_clumps 68 = .ok (.iload_n 3, 1) := dk_29 (dk_at dksX5_clumps_2 20 rfl rfl)
theorem dX5_clumps_69 : decode cX5_clumps 69 = .ok (.i2l, 1) := dk_133 (dk_at dksX5_clumps_2 21 rfl rfl)
theorem dX5_clumps_70 : decode cX5_clumps 70 = .ok (.lconst 1, 1) := dk_10 (dk_at dksX5_clumps_2 22 rfl rfl)
theorem dX5_clumps_71 : decode cX5_clumps 71 = .ok (.iload_n 2, 1) := dk_28 (dk_at dksX5_clumps_2 23 rfl rfl)
theorem dX5_clumps_72 : decode cX5_clumps 72 = .ok (.iconst 1, 1) := dk_4 (dk_at dksX5_clumps_3 0 rfl rfl)
theorem dX5_clumps_73 : decode cX5_clumps 73 = .ok (.isub, 1) := dk_100 (dk_at dksX5_clumps_3 1 rfl rfl)
theorem dX5_clumps_74 : decode cX5_clumps 74 = .ok (.i2l, 1) := dk_133 (dk_at dksX5_clumps_3 2 rfl rfl)
theorem dX5_clumps_75 : decode cX5_clumps 75 = .ok (.invokestatic 152, 3) := dk_184 0 152 (dk_at dksX5_clumps_3 3 rfl rfl)
theorem dX5_clumps_78 : decode cX5_clumps 78 = .ok (.ifCond .ne 10, 3) := dk_154 0 10 (dk_at dksX5_clumps_3 6 rfl rfl)
theorem dX5_clumps_81 : decode cX5_clumps 81 = .ok (.aload_n 0, 1) := dk_42 (dk_at dksX5_clumps_3 9 rfl rfl)
theorem dX5_clumps_82 : decode cX5_clumps 82 = .ok (.bipush (-3), 2) := dk_16 253 (dk_at dksX5_clumps_3 10 rfl rfl)
theorem dX5_clumps_84 : decode cX5_clumps 84 = .ok (.invokevirtual 89, 3) := dk_182 0 89 (dk_at dksX5_clumps_3 12 rfl rfl)
theorem dX5_clumps_87 : decode cX5_clumps 87 = .ok (.ireturn, 1) := dk_172 (dk_at dksX5_clumps_3 15 rfl rfl)
theorem dX5_clumps_88 : decode cX5_clumps 88 = .ok (.iconst 0, 1) := dk_3 (dk_at dksX5_clumps_3 16 rfl rfl)
theorem dX5_clumps_89 : decode cX5_clumps 89 = .ok (.istore 5, 2) := dk_54 5 (dk_at dksX5_clumps_3 17 rfl rfl)
theorem dX5_clumps_91 : decode cX5_clumps 91 = .ok (.iload 5, 2) := dk_21 5 (dk_at dksX5_clumps_3 19 rfl rfl)
theorem dX5_clumps_93 : decode cX5_clumps 93 = .ok (.aload_n 0, 1) := dk_42 (dk_at dksX5_clumps_3 21 rfl rfl)
theorem dX5_clumps_94 : decode cX5_clumps 94 = .ok (.getfield 76, 3) := dk_180 0 76 (dk_at dksX5_clumps_4 0 rfl rfl)
theorem dX5_clumps_97 : decode cX5_clumps 97 = .ok (.iload_n 1, 1) := dk_27 (dk_at dksX5_clumps_4 3 rfl rfl)
theorem dX5_clumps_98 : decode cX5_clumps 98 = .ok (.iaload, 1) := dk_46 (dk_at dksX5_clumps_4 4 rfl rfl)
theorem dX5_clumps_99 : decode cX5_clumps 99 = .ok (.if_icmp .ge 38, 3) := dk_162 0 38 (dk_at dksX5_clumps_4 5 rfl rfl)
theorem dX5_clumps_102 : decode cX5_clumps 102 = .ok (.aload_n 0, 1) := dk_42 (dk_at dksX5_clumps_4 8 rfl rfl)
theorem dX5_clumps_103 : decode cX5_clumps 103 = .ok (.getfield 79, 3) := dk_180 0 79 (dk_at dksX5_clumps_4 9 rfl rfl)
theorem dX5_clumps_106 : decode cX5_clumps 106 = .ok (.bipush 40, 2) := dk_16 40 (dk_at dksX5_clumps_4 12 rfl rfl)
theorem dX5_clumps_108 : decode cX5_clumps 108 = .ok (.iload_n 1, 1) := dk_27 (dk_at dksX5_clumps_4 14 rfl rfl)
theorem dX5_clumps_109 : decode cX5_clumps 109 = .ok (.imul, 1) := dk_104 (dk_at dksX5_clumps_4 15 rfl rfl)
theorem dX5_clumps_110 : decode cX5_clumps 110 = .ok (.iload 5, 2) := dk_21 5 (dk_at dksX5_clumps_4 16 rfl rfl)
theorem dX5_clumps_112 : decode cX5_clumps 112 = .ok (.iadd, 1) := dk_96 (dk_at dksX5_clumps_4 18 rfl rfl)
theorem dX5_clumps_113 : decode cX5_clumps 113 = .ok (.laload, 1) := dk_47 (dk_at dksX5_clumps_4 19 rfl rfl)
theorem dX5_clumps_114 : decode cX5_clumps 114 = .ok (.lconst 0, 1) := dk_9 (dk_at dksX5_clumps_4 20 rfl rfl)
theorem dX5_clumps_115 : decode cX5_clumps 115 = .ok (.ldc2_w 365, 3) := dk_20 1 109 (dk_at dksX5_clumps_4 21 rfl rfl)
theorem dX5_clumps_118 : decode cX5_clumps 118 = .ok (.invokestatic 152, 3) := dk_184 0 152 (dk_at dksX5_clumps_5 0 rfl rfl)
theorem dX5_clumps_121 : decode cX5_clumps 121 = .ok (.ifCond .ne 10, 3) := dk_154 0 10 (dk_at dksX5_clumps_5 3 rfl rfl)
theorem dX5_clumps_124 : decode cX5_clumps 124 = .ok (.aload_n 0, 1) := dk_42 (dk_at dksX5_clumps_5 6 rfl rfl)
theorem dX5_clumps_125 : decode cX5_clumps 125 = .ok (.bipush (-3), 2) := dk_16 253 (dk_at dksX5_clumps_5 7 rfl rfl)
theorem dX5_clumps_127 : decode cX5_clumps 127 = .ok (.invokevirtual 89, 3) := dk_182 0 89 (dk_at dksX5_clumps_5 9 rfl rfl)
theorem dX5_clumps_130 : decode cX5_clumps 130 = .ok (.ireturn, 1) := dk_172 (dk_at dksX5_clumps_5 12 rfl rfl)
theorem dX5_clumps_131 : decode cX5_clumps 131 = .ok (.iinc 5 1, 3) := dk_132 5 1 (dk_at dksX5_clumps_5 13 rfl rfl)
theorem dX5_clumps_134 : decode cX5_clumps 134 = .ok (.goto (-43), 3) := dk_167 255 213 (dk_at dksX5_clumps_5 16 rfl rfl)
theorem dX5_clumps_137 : decode cX5_clumps 137 = .ok (.iconst 0, 1) := dk_3 (dk_at dksX5_clumps_5 19 rfl rfl)
theorem dX5_clumps_138 : decode cX5_clumps 138 = .ok (.istore 5, 2) := dk_54 5 (dk_at dksX5_clumps_5 20 rfl rfl)
theorem dX5_clumps_140 : decode cX5_clumps 140 = .ok (.iconst 0, 1) := dk_3 (dk_at dksX5_clumps_5 22 rfl rfl)
theorem dX5_clumps_141 : decode cX5_clumps 141 = .ok (.istore 6, 2) := dk_54 6 (dk_at dksX5_clumps_6 0 rfl rfl)
theorem dX5_clumps_143 : decode cX5_clumps 143 = .ok (.iload 6, 2) := dk_21 6 (dk_at dksX5_clumps_6 2 rfl rfl)
theorem dX5_clumps_145 : decode cX5_clumps 145 = .ok (.aload_n 0, 1) := dk_42 (dk_at dksX5_clumps_6 4 rfl rfl)
theorem dX5_clumps_146 : decode cX5_clumps 146 = .ok (.getfield 76, 3) := dk_180 0 76 (dk_at dksX5_clumps_6 5 rfl rfl)
theorem dX5_clumps_149 : decode cX5_clumps 149 = .ok (.iload_n 1, 1) := dk_27 (dk_at dksX5_clumps_6 8 rfl rfl)
theorem dX5_clumps_150 : decode cX5_clumps 150 = .ok (.iaload, 1) := dk_46 (dk_at dksX5_clumps_6 9 rfl rfl)
theorem dX5_clumps_151 : decode cX5_clumps 151 = .ok (.if_icmp .ge 68, 3) := dk_162 0 68 (dk_at dksX5_clumps_6 10 rfl rfl)
theorem dX5_clumps_154 : decode cX5_clumps 154 = .ok (.aload_n 0, 1) := dk_42 (dk_at dksX5_clumps_6 13 rfl rfl)
theorem dX5_clumps_155 : decode cX5_clumps 155 = .ok (.getfield 79, 3) := dk_180 0 79 (dk_at dksX5_clumps_6 14 rfl rfl)
theorem dX5_clumps_158 : decode cX5_clumps 158 = .ok (.bipush 40, 2) := dk_16 40 (dk_at dksX5_clumps_6 17 rfl rfl)
theorem dX5_clumps_160 : decode cX5_clumps 160 = .ok (.iload_n 1, 1) := dk_27 (dk_at dksX5_clumps_6 19 rfl rfl)
theorem dX5_clumps_161 : decode cX5_clumps 161 = .ok (.imul, 1) := dk_104 (dk_at dksX5_clumps_6 20 rfl rfl)
theorem dX5_clumps_162 : decode cX5_clumps 162 = .ok (.iload 6, 2) := dk_21 6 (dk_at dksX5_clumps_6 21 rfl rfl)
theorem dX5_clumps_164 : decode cX5_clumps 164 = .ok (.iadd, 1) := dk_96 (dk_at dksX5_clumps_6 23 rfl rfl)
theorem dX5_clumps_165 : decode cX5_clumps 165 = .ok (.laload, 1) := dk_47 (dk_at dksX5_clumps_7 0 rfl rfl)
theorem dX5_clumps_166 : decode cX5_clumps 166 = .ok (.l2i, 1) := dk_136 (dk_at dksX5_clumps_7 1 rfl rfl)
theorem dX5_clumps_167 : decode cX5_clumps 167 = .ok (.istore 7, 2) := dk_54 7 (dk_at dksX5_clumps_7 2 rfl rfl)
theorem dX5_clumps_169 : decode cX5_clumps 169 = .ok (.aload_n 0, 1) := dk_42 (dk_at dksX5_clumps_7 4 rfl rfl)
theorem dX5_clumps_170 : decode cX5_clumps 170 = .ok (.getfield 70, 3) := dk_180 0 70 (dk_at dksX5_clumps_7 5 rfl rfl)
theorem dX5_clumps_173 : decode cX5_clumps 173 = .ok (.iload 6, 2) := dk_21 6 (dk_at dksX5_clumps_7 8 rfl rfl)
theorem dX5_clumps_175 : decode cX5_clumps 175 = .ok (.iload 7, 2) := dk_21 7 (dk_at dksX5_clumps_7 10 rfl rfl)
theorem dX5_clumps_177 : decode cX5_clumps 177 = .ok (.iload_n 2, 1) := dk_28 (dk_at dksX5_clumps_7 12 rfl rfl)
theorem dX5_clumps_178 : decode cX5_clumps 178 = .ok (.irem, 1) := dk_112 (dk_at dksX5_clumps_7 13 rfl rfl)
theorem dX5_clumps_179 : decode cX5_clumps 179 = .ok (.iload_n 3, 1) := dk_29 (dk_at dksX5_clumps_7 14 rfl rfl)
theorem dX5_clumps_180 : decode cX5_clumps 180 = .ok (.if_icmp .ge 8, 3) := dk_162 0 8 (dk_at dksX5_clumps_7 15 rfl rfl)
theorem dX5_clumps_183 : decode cX5_clumps 183 = .ok (.iload 7, 2) := dk_21 7 (dk_at dksX5_clumps_7 18 rfl rfl)
theorem dX5_clumps_185 : decode cX5_clumps 185 = .ok (.goto 12, 3) := dk_167 0 12 (dk_at dksX5_clumps_7 20 rfl rfl)
theorem dX5_clumps_188 : decode cX5_clumps 188 = .ok (.iload 7, 2) := dk_21 7 (dk_at dksX5_clumps_8 0 rfl rfl)
theorem dX5_clumps_190 : decode cX5_clumps 190 = .ok (.iload_n 2, 1) := dk_28 (dk_at dksX5_clumps_8 2 rfl rfl)
theorem dX5_clumps_191 : decode cX5_clumps 191 = .ok (.iadd, 1) := dk_96 (dk_at dksX5_clumps_8 3 rfl rfl)
theorem dX5_clumps_192 : decode cX5_clumps 192 = .ok (.iload 7, 2) := dk_21 7 (dk_at dksX5_clumps_8 4 rfl rfl)
theorem dX5_clumps_194 : decode cX5_clumps 194 = .ok (.iload_n 2, 1) := dk_28 (dk_at dksX5_clumps_8 6 rfl rfl)
theorem dX5_clumps_195 : decode cX5_clumps 195 = .ok (.irem, 1) := dk_112 (dk_at dksX5_clumps_8 7 rfl rfl)
theorem dX5_clumps_196 : decode cX5_clumps 196 = .ok (.isub, 1) := dk_100 (dk_at dksX5_clumps_8 8 rfl rfl)
theorem dX5_clumps_197 : decode cX5_clumps 197 = .ok (.iastore, 1) := dk_79 (dk_at dksX5_clumps_8 9 rfl rfl)
theorem dX5_clumps_198 : decode cX5_clumps 198 = .ok (.iload 5, 2) := dk_21 5 (dk_at dksX5_clumps_8 10 rfl rfl)
theorem dX5_clumps_200 : decode cX5_clumps 200 = .ok (.aload_n 0, 1) := dk_42 (dk_at dksX5_clumps_8 12 rfl rfl)
theorem dX5_clumps_201 : decode cX5_clumps 201 = .ok (.getfield 70, 3) := dk_180 0 70 (dk_at dksX5_clumps_8 13 rfl rfl)
theorem dX5_clumps_204 : decode cX5_clumps 204 = .ok (.iload 6, 2) := dk_21 6 (dk_at dksX5_clumps_8 16 rfl rfl)
theorem dX5_clumps_206 : decode cX5_clumps 206 = .ok (.iaload, 1) := dk_46 (dk_at dksX5_clumps_8 18 rfl rfl)
theorem dX5_clumps_207 : decode cX5_clumps 207 = .ok (.iload 7, 2) := dk_21 7 (dk_at dksX5_clumps_8 19 rfl rfl)
theorem dX5_clumps_209 : decode cX5_clumps 209 = .ok (.isub, 1) := dk_100 (dk_at dksX5_clumps_8 21 rfl rfl)
theorem dX5_clumps_210 : decode cX5_clumps 210 = .ok (.iadd, 1) := dk_96 (dk_at dksX5_clumps_8 22 rfl rfl)
theorem dX5_clumps_211 : decode cX5_clumps 211 = .ok (.istore 5, 2) := dk_54 5 (dk_at dksX5_clumps_9 0 rfl rfl)
theorem dX5_clumps_213 : decode cX5_clumps 213 = .ok (.iinc 6 1, 3) := dk_132 6 1 (dk_at dksX5_clumps_9 2 rfl rfl)
theorem dX5_clumps_216 : decode cX5_clumps 216 = .ok (.goto (-73), 3) := dk_167 255 183 (dk_at dksX5_clumps_9 5 rfl rfl)
theorem dX5_clumps_219 : decode cX5_clumps 219 = .ok (.iconst 0, 1) := dk_3 (dk_at dksX5_clumps_9 8 rfl rfl)
theorem dX5_clumps_220 : decode cX5_clumps 220 = .ok (.istore 6, 2) := dk_54 6 (dk_at dksX5_clumps_9 9 rfl rfl)
theorem dX5_clumps_222 : decode cX5_clumps 222 = .ok (.iconst 0, 1) := dk_3 (dk_at dksX5_clumps_9 11 rfl rfl)
theorem dX5_clumps_223 : decode cX5_clumps 223 = .ok (.istore 7, 2) := dk_54 7 (dk_at dksX5_clumps_9 12 rfl rfl)
theorem dX5_clumps_225 : decode cX5_clumps 225 = .ok (.iconst 0, 1) := dk_3 (dk_at dksX5_clumps_9 14 rfl rfl)
theorem dX5_clumps_226 : decode cX5_clumps 226 = .ok (.istore 8, 2) := dk_54 8 (dk_at dksX5_clumps_9 15 rfl rfl)
theorem dX5_clumps_228 : decode cX5_clumps 228 = .ok (.iload 8, 2) := dk_21 8 (dk_at dksX5_clumps_9 17 rfl rfl)
theorem dX5_clumps_230 : decode cX5_clumps 230 = .ok (.aload_n 0, 1) := dk_42 (dk_at dksX5_clumps_9 19 rfl rfl)
theorem dX5_clumps_231 : decode cX5_clumps 231 = .ok (.getfield 76, 3) := dk_180 0 76 (dk_at dksX5_clumps_9 20 rfl rfl)
theorem dX5_clumps_234 : decode cX5_clumps 234 = .ok (.iload_n 1, 1) := dk_27 (dk_at dksX5_clumps_9 23 rfl rfl)
theorem dX5_clumps_235 : decode cX5_clumps 235 = .ok (.iaload, 1) := dk_46 (dk_at dksX5_clumps_10 0 rfl rfl)
theorem dX5_clumps_236 : decode cX5_clumps 236 = .ok (.if_icmp .ge 108, 3) := dk_162 0 108 (dk_at dksX5_clumps_10 1 rfl rfl)
theorem dX5_clumps_239 : decode cX5_clumps 239 = .ok (.iconst 0, 1) := dk_3 (dk_at dksX5_clumps_10 4 rfl rfl)
theorem dX5_clumps_240 : decode cX5_clumps 240 = .ok (.istore 9, 2) := dk_54 9 (dk_at dksX5_clumps_10 5 rfl rfl)
theorem dX5_clumps_242 : decode cX5_clumps 242 = .ok (.iconst 1, 1) := dk_4 (dk_at dksX5_clumps_10 7 rfl rfl)
theorem dX5_clumps_243 : decode cX5_clumps 243 = .ok (.istore 10, 2) := dk_54 10 (dk_at dksX5_clumps_10 8 rfl rfl)
theorem dX5_clumps_245 : decode cX5_clumps 245 = .ok (.iconst 0, 1) := dk_3 (dk_at dksX5_clumps_10 10 rfl rfl)
theorem dX5_clumps_246 : decode cX5_clumps 246 = .ok (.istore 11, 2) := dk_54 11 (dk_at dksX5_clumps_10 11 rfl rfl)
theorem dX5_clumps_248 : decode cX5_clumps 248 = .ok (.iload 11, 2) := dk_21 11 (dk_at dksX5_clumps_10 13 rfl rfl)
theorem dX5_clumps_250 : decode cX5_clumps 250 = .ok (.aload_n 0, 1) := dk_42 (dk_at dksX5_clumps_10 15 rfl rfl)
theorem dX5_clumps_251 : decode cX5_clumps 251 = .ok (.getfield 76, 3) := dk_180 0 76 (dk_at dksX5_clumps_10 16 rfl rfl)
theorem dX5_clumps_254 : decode cX5_clumps 254 = .ok (.iload_n 1, 1) := dk_27 (dk_at dksX5_clumps_10 19 rfl rfl)
theorem dX5_clumps_255 : decode cX5_clumps 255 = .ok (.iaload, 1) := dk_46 (dk_at dksX5_clumps_10 20 rfl rfl)
theorem dX5_clumps_256 : decode cX5_clumps 256 = .ok (.if_icmp .ge 51, 3) := dk_162 0 51 (dk_at dksX5_clumps_10 21 rfl rfl)
theorem dX5_clumps_259 : decode cX5_clumps 259 = .ok (.aload_n 0, 1) := dk_42 (dk_at dksX5_clumps_11 0 rfl rfl)
theorem dX5_clumps_260 : decode cX5_clumps 260 = .ok (.getfield 70, 3) := dk_180 0 70 (dk_at dksX5_clumps_11 1 rfl rfl)
theorem dX5_clumps_263 : decode cX5_clumps 263 = .ok (.iload 11, 2) := dk_21 11 (dk_at dksX5_clumps_11 4 rfl rfl)
theorem dX5_clumps_265 : decode cX5_clumps 265 = .ok (.iaload, 1) := dk_46 (dk_at dksX5_clumps_11 6 rfl rfl)
theorem dX5_clumps_266 : decode cX5_clumps 266 = .ok (.aload_n 0, 1) := dk_42 (dk_at dksX5_clumps_11 7 rfl rfl)
theorem dX5_clumps_267 : decode cX5_clumps 267 = .ok (.getfield 70, 3) := dk_180 0 70 (dk_at dksX5_clumps_11 8 rfl rfl)
theorem dX5_clumps_270 : decode cX5_clumps 270 = .ok (.iload 8, 2) := dk_21 8 (dk_at dksX5_clumps_11 11 rfl rfl)
theorem dX5_clumps_272 : decode cX5_clumps 272 = .ok (.iaload, 1) := dk_46 (dk_at dksX5_clumps_11 13 rfl rfl)
theorem dX5_clumps_273 : decode cX5_clumps 273 = .ok (.if_icmp .eq 6, 3) := dk_159 0 6 (dk_at dksX5_clumps_11 14 rfl rfl)
theorem dX5_clumps_276 : decode cX5_clumps 276 = .ok (.goto 25, 3) := dk_167 0 25 (dk_at dksX5_clumps_11 17 rfl rfl)
theorem dX5_clumps_279 : decode cX5_clumps 279 = .ok (.iinc 9 1, 3) := dk_132 9 1 (dk_at dksX5_clumps_11 20 rfl rfl)
theorem dX5_clumps_282 : decode cX5_clumps 282 = .ok (.iload 10, 2) := dk_21 10 (dk_at dksX5_clumps_12 0 rfl rfl)
theorem dX5_clumps_284 : decode cX5_clumps 284 = .ok (.ifCond .eq 14, 3) := dk_153 0 14 (dk_at dksX5_clumps_12 2 rfl rfl)
theorem dX5_clumps_287 : decode cX5_clumps 287 = .ok (.iload 11, 2) := dk_21 11 (dk_at dksX5_clumps_12 5 rfl rfl)
theorem dX5_clumps_289 : decode cX5_clumps 289 = .ok (.iload 8, 2) := dk_21 8 (dk_at dksX5_clumps_12 7 rfl rfl)
theorem dX5_clumps_291 : decode cX5_clumps 291 = .ok (.if_icmp .lt 7, 3) := dk_161 0 7 (dk_at dksX5_clumps_12 9 rfl rfl)
theorem dX5_clumps_294 : decode cX5_clumps 294 = .ok (.iconst 1, 1) := dk_4 (dk_at dksX5_clumps_12 12 rfl rfl)
theorem dX5_clumps_295 : decode cX5_clumps 295 = .ok (.goto 4, 3) := dk_167 0 4 (dk_at dksX5_clumps_12 13 rfl rfl)
theorem dX5_clumps_298 : decode cX5_clumps 298 = .ok (.iconst 0, 1) := dk_3 (dk_at dksX5_clumps_12 16 rfl rfl)
theorem dX5_clumps_299 : decode cX5_clumps 299 = .ok (.istore 10, 2) := dk_54 10 (dk_at dksX5_clumps_12 17 rfl rfl)
theorem dX5_clumps_301 : decode cX5_clumps 301 = .ok (.iinc 11 1, 3) := dk_132 11 1 (dk_at dksX5_clumps_12 19 rfl rfl)
theorem dX5_clumps_304 : decode cX5_clumps 304 = .ok (.goto (-56), 3) := dk_167 255 200 (dk_at dksX5_clumps_13 0 rfl rfl)
theorem dX5_clumps_307 : decode cX5_clumps 307 = .ok (.iload 9, 2) := dk_21 9 (dk_at dksX5_clumps_13 3 rfl rfl)
theorem dX5_clumps_309 : decode cX5_clumps 309 = .ok (.iload 6, 2) := dk_21 6 (dk_at dksX5_clumps_13 5 rfl rfl)
theorem dX5_clumps_311 : decode cX5_clumps 311 = .ok (.if_icmp .le 8, 3) := dk_164 0 8 (dk_at dksX5_clumps_13 7 rfl rfl)
theorem dX5_clumps_314 : decode cX5_clumps 314 = .ok (.iload 9, 2) := dk_21 9 (dk_at dksX5_clumps_13 10 rfl rfl)
theorem dX5_clumps_316 : decode cX5_clumps 316 = .ok (.goto 5, 3) := dk_167 0 5 (dk_at dksX5_clumps_13 12 rfl rfl)
theorem dX5_clumps_319 : decode cX5_clumps 319 = .ok (.iload 6, 2) := dk_21 6 (dk_at dksX5_clumps_13 15 rfl rfl)
theorem dX5_clumps_321 : decode cX5_clumps 321 = .ok (.istore 6, 2) := dk_54 6 (dk_at dksX5_clumps_13 17 rfl rfl)
theorem dX5_clumps_323 : decode cX5_clumps 323 = .ok (.iload 7, 2) := dk_21 7 (dk_at dksX5_clumps_13 19 rfl rfl)
theorem dX5_clumps_325 : decode cX5_clumps 325 = .ok (.iload 10, 2) := dk_21 10 (dk_at dksX5_clumps_13 21 rfl rfl)
theorem dX5_clumps_327 : decode cX5_clumps 327 = .ok (.ifCond .eq 7, 3) := dk_153 0 7 (dk_at dksX5_clumps_14 0 rfl rfl)
theorem dX5_clumps_330 : decode cX5_clumps 330 = .ok (.iconst 1, 1) := dk_4 (dk_at dksX5_clumps_14 3 rfl rfl)
theorem dX5_clumps_331 : decode cX5_clumps 331 = .ok (.goto 4, 3) := dk_167 0 4 (dk_at dksX5_clumps_14 4 rfl rfl)
theorem dX5_clumps_334 : decode cX5_clumps 334 = .ok (.iconst 0, 1) := dk_3 (dk_at dksX5_clumps_14 7 rfl rfl)
theorem dX5_clumps_335 : decode cX5_clumps 335 = .ok (.iadd, 1) := dk_96 (dk_at dksX5_clumps_14 8 rfl rfl)
theorem dX5_clumps_336 : decode cX5_clumps 336 = .ok (.istore 7, 2) := dk_54 7 (dk_at dksX5_clumps_14 9 rfl rfl)
theorem dX5_clumps_338 : decode cX5_clumps 338 = .ok (.iinc 8 1, 3) := dk_132 8 1 (dk_at dksX5_clumps_14 11 rfl rfl)
theorem dX5_clumps_341 : decode cX5_clumps 341 = .ok (.goto (-113), 3) := dk_167 255 143 (dk_at dksX5_clumps_14 14 rfl rfl)
theorem dX5_clumps_344 : decode cX5_clumps 344 = .ok (.iload 4, 2) := dk_21 4 (dk_at dksX5_clumps_14 17 rfl rfl)
theorem dX5_clumps_346 : decode cX5_clumps 346 = .ok (.ifCond .ne 8, 3) := dk_154 0 8 (dk_at dksX5_clumps_14 19 rfl rfl)
theorem dX5_clumps_349 : decode cX5_clumps 349 = .ok (.iload 5, 2) := dk_21 5 (dk_at dksX5_clumps_14 22 rfl rfl)
theorem dX5_clumps_351 : decode cX5_clumps 351 = .ok (.goto 16, 3) := dk_167 0 16 (dk_at dksX5_clumps_15 0 rfl rfl)
theorem dX5_clumps_354 : decode cX5_clumps 354 = .ok (.iload 4, 2) := dk_21 4 (dk_at dksX5_clumps_15 3 rfl rfl)
theorem dX5_clumps_356 : decode cX5_clumps 356 = .ok (.iconst 1, 1) := dk_4 (dk_at dksX5_clumps_15 5 rfl rfl)
theorem dX5_clumps_357 : decode cX5_clumps 357 = .ok (.if_icmp .ne 8, 3) := dk_160 0 8 (dk_at dksX5_clumps_15 6 rfl rfl)
theorem dX5_clumps_360 : decode cX5_clumps 360 = .ok (.iload 6, 2) := dk_21 6 (dk_at dksX5_clumps_15 9 rfl rfl)
theorem dX5_clumps_362 : decode cX5_clumps 362 = .ok (.goto 5, 3) := dk_167 0 5 (dk_at dksX5_clumps_15 11 rfl rfl)
theorem dX5_clumps_365 : decode cX5_clumps 365 = .ok (.iload 7, 2) := dk_21 7 (dk_at dksX5_clumps_15 14 rfl rfl)
theorem dX5_clumps_367 : decode cX5_clumps 367 = .ok (.ireturn, 1) := dk_172 (dk_at dksX5_clumps_15 16 rfl rfl)
abbrev cX5_lamp : ByteArray := prog_21_method_97_code
def yX5_lamp : MethodName := ⟨RX5, "lamp", "(III)I"⟩
def dkwX5_lamp_7 : List UInt8 := [154, 0, 8, 21, 4, 167, 0, 5, 21, 5, 172]
abbrev dktX5_lamp_7 : List UInt8 := dkwX5_lamp_7 ++ []
def dkwX5_lamp_6 : List UInt8 := [54, 4, 21, 9, 54, 5, 22, 10, 55, 6, 132, 9, 1, 167, 255, 178, 132, 8, 1, 167, 255, 162, 29]
abbrev dktX5_lamp_6 : List UInt8 := dkwX5_lamp_6 ++ dktX5_lamp_7
def dkwX5_lamp_5 : List UInt8 := [158, 0, 22, 22, 10, 21, 4, 133, 105, 22, 6, 21, 8, 133, 105, 148, 155, 0, 6, 167, 0, 15, 21, 8]
abbrev dktX5_lamp_5 : List UInt8 := dkwX5_lamp_5 ++ dktX5_lamp_6
def dkwX5_lamp_4 : List UInt8 := [133, 105, 28, 133, 21, 8, 21, 9, 100, 133, 105, 21, 8, 21, 9, 100, 133, 105, 97, 55, 10, 21, 4]
abbrev dktX5_lamp_4 : List UInt8 := dkwX5_lamp_4 ++ dktX5_lamp_5
def dkwX5_lamp_3 : List UInt8 := [163, 0, 93, 8, 54, 9, 21, 9, 21, 8, 16, 10, 100, 163, 0, 74, 27, 133, 21, 9, 133, 105, 21, 9]
abbrev dktX5_lamp_3 : List UInt8 := dkwX5_lamp_3 ++ dktX5_lamp_4
def dkwX5_lamp_2 : List UInt8 := [16, 253, 182, 0, 89, 172, 3, 54, 4, 3, 54, 5, 9, 55, 6, 16, 20, 54, 8, 21, 8, 16, 120]
abbrev dktX5_lamp_2 : List UInt8 := dkwX5_lamp_2 ++ dktX5_lamp_3
def dkwX5_lamp_1 : List UInt8 := [9, 20, 1, 97, 184, 0, 152, 153, 0, 15, 28, 133, 9, 20, 1, 97, 184, 0, 152, 154, 0, 10, 42]
abbrev dktX5_lamp_1 : List UInt8 := dkwX5_lamp_1 ++ dktX5_lamp_2
def dkwX5_lamp_0 : List UInt8 := [42, 3, 181, 0, 1, 29, 133, 9, 10, 184, 0, 152, 154, 0, 10, 42, 16, 254, 182, 0, 89, 172, 27, 133]
abbrev dktX5_lamp_0 : List UInt8 := dkwX5_lamp_0 ++ dktX5_lamp_1
theorem dksX5_lamp_0 : cX5_lamp.data.toList.drop 0 = dktX5_lamp_0 := by decide +kernel
theorem dksX5_lamp_1 : cX5_lamp.data.toList.drop 24 = dktX5_lamp_1 := dk_seg dksX5_lamp_0 24 rfl rfl
theorem dksX5_lamp_2 : cX5_lamp.data.toList.drop 47 = dktX5_lamp_2 := dk_seg dksX5_lamp_1 23 rfl rfl
theorem dksX5_lamp_3 : cX5_lamp.data.toList.drop 70 = dktX5_lamp_3 := dk_seg dksX5_lamp_2 23 rfl rfl
theorem dksX5_lamp_4 : cX5_lamp.data.toList.drop 94 = dktX5_lamp_4 := dk_seg dksX5_lamp_3 24 rfl rfl
theorem dksX5_lamp_5 : cX5_lamp.data.toList.drop 117 = dktX5_lamp_5 := dk_seg dksX5_lamp_4 23 rfl rfl
theorem dksX5_lamp_6 : cX5_lamp.data.toList.drop 141 = dktX5_lamp_6 := dk_seg dksX5_lamp_5 24 rfl rfl
theorem dksX5_lamp_7 : cX5_lamp.data.toList.drop 164 = dktX5_lamp_7 := dk_seg dksX5_lamp_6 23 rfl rfl
theorem dX5_lamp_0 : decode cX5_lamp 0 = .ok (.aload_n 0, 1) := dk_42 (dk_at dksX5_lamp_0 0 rfl rfl)
theorem dX5_lamp_1 : decode cX5_lamp 1 = .ok (.iconst 0, 1) := dk_3 (dk_at dksX5_lamp_0 1 rfl rfl)
theorem dX5_lamp_2 : decode cX5_lamp 2 = .ok (.putfield 1, 3) := dk_181 0 1 (dk_at dksX5_lamp_0 2 rfl rfl)
theorem dX5_lamp_5 : decode cX5_lamp 5 = .ok (.iload_n 3, 1) := dk_29 (dk_at dksX5_lamp_0 5 rfl rfl)
theorem dX5_lamp_6 : decode cX5_lamp 6 = .ok (.i2l, 1) := dk_133 (dk_at dksX5_lamp_0 6 rfl rfl)
theorem dX5_lamp_7 : decode cX5_lamp 7 = .ok (.lconst 0, 1) := dk_9 (dk_at dksX5_lamp_0 7 rfl rfl)
theorem dX5_lamp_8 : decode cX5_lamp 8 = .ok (.lconst 1, 1) := dk_10 (dk_at dksX5_lamp_0 8 rfl rfl)
theorem dX5_lamp_9 : decode cX5_lamp 9 = .ok (.invokestatic 152, 3) := dk_184 0 152 (dk_at dksX5_lamp_0 9 rfl rfl)
theorem dX5_lamp_12 : decode cX5_lamp 12 = .ok (.ifCond .ne 10, 3) := dk_154 0 10 (dk_at dksX5_lamp_0 12 rfl rfl)
theorem dX5_lamp_15 : decode cX5_lamp 15 = .ok (.aload_n 0, 1) := dk_42 (dk_at dksX5_lamp_0 15 rfl rfl)
theorem dX5_lamp_16 : decode cX5_lamp 16 = .ok (.bipush (-2), 2) := dk_16 254 (dk_at dksX5_lamp_0 16 rfl rfl)
theorem dX5_lamp_18 : decode cX5_lamp 18 = .ok (.invokevirtual 89, 3) := dk_182 0 89 (dk_at dksX5_lamp_0 18 rfl rfl)
theorem dX5_lamp_21 : decode cX5_lamp 21 = .ok (.ireturn, 1) := dk_172 (dk_at dksX5_lamp_0 21 rfl rfl)
theorem dX5_lamp_22 : decode cX5_lamp 22 = .ok (.iload_n 1, 1) := dk_27 (dk_at dksX5_lamp_0 22 rfl rfl)
theorem dX5_lamp_23 : decode cX5_lamp 23 = .ok (.i2l, 1) := dk_133 (dk_at dksX5_lamp_0 23 rfl rfl)
theorem dX5_lamp_24 : decode cX5_lamp 24 = .ok (.lconst 0, 1) := dk_9 (dk_at dksX5_lamp_1 0 rfl rfl)
theorem dX5_lamp_25 : decode cX5_lamp 25 = .ok (.ldc2_w 353, 3) := dk_20 1 97 (dk_at dksX5_lamp_1 1 rfl rfl)
theorem dX5_lamp_28 : decode cX5_lamp 28 = .ok (.invokestatic 152, 3) := dk_184 0 152 (dk_at dksX5_lamp_1 4 rfl rfl)
theorem dX5_lamp_31 : decode cX5_lamp 31 = .ok (.ifCond .eq 15, 3) := dk_153 0 15 (dk_at dksX5_lamp_1 7 rfl rfl)
theorem dX5_lamp_34 : decode cX5_lamp 34 = .ok (.iload_n 2, 1) := dk_28 (dk_at dksX5_lamp_1 10 rfl rfl)
theorem dX5_lamp_35 : decode cX5_lamp 35 = .ok (.i2l, 1) := dk_133 (dk_at dksX5_lamp_1 11 rfl rfl)
theorem dX5_lamp_36 : decode cX5_lamp 36 = .ok (.lconst 0, 1) := dk_9 (dk_at dksX5_lamp_1 12 rfl rfl)
theorem dX5_lamp_37 : decode cX5_lamp 37 = .ok (.ldc2_w 353, 3) := dk_20 1 97 (dk_at dksX5_lamp_1 13 rfl rfl)
theorem dX5_lamp_40 : decode cX5_lamp 40 = .ok (.invokestatic 152, 3) := dk_184 0 152 (dk_at dksX5_lamp_1 16 rfl rfl)
theorem dX5_lamp_43 : decode cX5_lamp 43 = .ok (.ifCond .ne 10, 3) := dk_154 0 10 (dk_at dksX5_lamp_1 19 rfl rfl)
theorem dX5_lamp_46 : decode cX5_lamp 46 = .ok (.aload_n 0, 1) := dk_42 (dk_at dksX5_lamp_1 22 rfl rfl)
theorem dX5_lamp_47 : decode cX5_lamp 47 = .ok (.bipush (-3), 2) := dk_16 253 (dk_at dksX5_lamp_2 0 rfl rfl)
theorem dX5_lamp_49 : decode cX5_lamp 49 = .ok (.invokevirtual 89, 3) := dk_182 0 89 (dk_at dksX5_lamp_2 2 rfl rfl)
theorem dX5_lamp_52 : decode cX5_lamp 52 = .ok (.ireturn, 1) := dk_172 (dk_at dksX5_lamp_2 5 rfl rfl)
theorem dX5_lamp_53 : decode cX5_lamp 53 = .ok (.iconst 0, 1) := dk_3 (dk_at dksX5_lamp_2 6 rfl rfl)
theorem dX5_lamp_54 : decode cX5_lamp 54 = .ok (.istore 4, 2) := dk_54 4 (dk_at dksX5_lamp_2 7 rfl rfl)
theorem dX5_lamp_56 : decode cX5_lamp 56 = .ok (.iconst 0, 1) := dk_3 (dk_at dksX5_lamp_2 9 rfl rfl)
theorem dX5_lamp_57 : decode cX5_lamp 57 = .ok (.istore 5, 2) := dk_54 5 (dk_at dksX5_lamp_2 10 rfl rfl)
theorem dX5_lamp_59 : decode cX5_lamp 59 = .ok (.lconst 0, 1) := dk_9 (dk_at dksX5_lamp_2 12 rfl rfl)
theorem dX5_lamp_60 : decode cX5_lamp 60 = .ok (.lstore 6, 2) := dk_55 6 (dk_at dksX5_lamp_2 13 rfl rfl)
theorem dX5_lamp_62 : decode cX5_lamp 62 = .ok (.bipush 20, 2) := dk_16 20 (dk_at dksX5_lamp_2 15 rfl rfl)
theorem dX5_lamp_64 : decode cX5_lamp 64 = .ok (.istore 8, 2) := dk_54 8 (dk_at dksX5_lamp_2 17 rfl rfl)
theorem dX5_lamp_66 : decode cX5_lamp 66 = .ok (.iload 8, 2) := dk_21 8 (dk_at dksX5_lamp_2 19 rfl rfl)
theorem dX5_lamp_68 : decode cX5_lamp 68 = .ok (.bipush 120, 2) := dk_16 120 (dk_at dksX5_lamp_2 21 rfl rfl)
theorem dX5_lamp_70 : decode cX5_lamp 70 = .ok (.if_icmp .gt 93, 3) := dk_163 0 93 (dk_at dksX5_lamp_3 0 rfl rfl)
theorem dX5_lamp_73 : decode cX5_lamp 73 = .ok (.iconst 5, 1) := dk_8 (dk_at dksX5_lamp_3 3 rfl rfl)
theorem dX5_lamp_74 : decode cX5_lamp 74 = .ok (.istore 9, 2) := dk_54 9 (dk_at dksX5_lamp_3 4 rfl rfl)
theorem dX5_lamp_76 : decode cX5_lamp 76 = .ok (.iload 9, 2) := dk_21 9 (dk_at dksX5_lamp_3 6 rfl rfl)
theorem dX5_lamp_78 : decode cX5_lamp 78 = .ok (.iload 8, 2) := dk_21 8 (dk_at dksX5_lamp_3 8 rfl rfl)
theorem dX5_lamp_80 : decode cX5_lamp 80 = .ok (.bipush 10, 2) := dk_16 10 (dk_at dksX5_lamp_3 10 rfl rfl)
theorem dX5_lamp_82 : decode cX5_lamp 82 = .ok (.isub, 1) := dk_100 (dk_at dksX5_lamp_3 12 rfl rfl)
theorem dX5_lamp_83 : decode cX5_lamp 83 = .ok (.if_icmp .gt 74, 3) := dk_163 0 74 (dk_at dksX5_lamp_3 13 rfl rfl)
theorem dX5_lamp_86 : decode cX5_lamp 86 = .ok (.iload_n 1, 1) := dk_27 (dk_at dksX5_lamp_3 16 rfl rfl)
theorem dX5_lamp_87 : decode cX5_lamp 87 = .ok (.i2l, 1) := dk_133 (dk_at dksX5_lamp_3 17 rfl rfl)
theorem dX5_lamp_88 : decode cX5_lamp 88 = .ok (.iload 9, 2) := dk_21 9 (dk_at dksX5_lamp_3 18 rfl rfl)
theorem dX5_lamp_90 : decode cX5_lamp 90 = .ok (.i2l, 1) := dk_133 (dk_at dksX5_lamp_3 20 rfl rfl)
theorem dX5_lamp_91 : decode cX5_lamp 91 = .ok (.lmul, 1) := dk_105 (dk_at dksX5_lamp_3 21 rfl rfl)
theorem dX5_lamp_92 : decode cX5_lamp 92 = .ok (.iload 9, 2) := dk_21 9 (dk_at dksX5_lamp_3 22 rfl rfl)
theorem dX5_lamp_94 : decode cX5_lamp 94 = .ok (.i2l, 1) := dk_133 (dk_at dksX5_lamp_4 0 rfl rfl)
theorem dX5_lamp_95 : decode cX5_lamp 95 = .ok (.lmul, 1) := dk_105 (dk_at dksX5_lamp_4 1 rfl rfl)
theorem dX5_lamp_96 : decode cX5_lamp 96 = .ok (.iload_n 2, 1) := dk_28 (dk_at dksX5_lamp_4 2 rfl rfl)
theorem dX5_lamp_97 : decode cX5_lamp 97 = .ok (.i2l, 1) := dk_133 (dk_at dksX5_lamp_4 3 rfl rfl)
theorem dX5_lamp_98 : decode cX5_lamp 98 = .ok (.iload 8, 2) := dk_21 8 (dk_at dksX5_lamp_4 4 rfl rfl)
theorem dX5_lamp_100 : decode cX5_lamp 100 = .ok (.iload 9, 2) := dk_21 9 (dk_at dksX5_lamp_4 6 rfl rfl)
theorem dX5_lamp_102 : decode cX5_lamp 102 = .ok (.isub, 1) := dk_100 (dk_at dksX5_lamp_4 8 rfl rfl)
theorem dX5_lamp_103 : decode cX5_lamp 103 = .ok (.i2l, 1) := dk_133 (dk_at dksX5_lamp_4 9 rfl rfl)
theorem dX5_lamp_104 : decode cX5_lamp 104 = .ok (.lmul, 1) := dk_105 (dk_at dksX5_lamp_4 10 rfl rfl)
theorem dX5_lamp_105 : decode cX5_lamp 105 = .ok (.iload 8, 2) := dk_21 8 (dk_at dksX5_lamp_4 11 rfl rfl)
theorem dX5_lamp_107 : decode cX5_lamp 107 = .ok (.iload 9, 2) := dk_21 9 (dk_at dksX5_lamp_4 13 rfl rfl)
theorem dX5_lamp_109 : decode cX5_lamp 109 = .ok (.isub, 1) := dk_100 (dk_at dksX5_lamp_4 15 rfl rfl)
theorem dX5_lamp_110 : decode cX5_lamp 110 = .ok (.i2l, 1) := dk_133 (dk_at dksX5_lamp_4 16 rfl rfl)
theorem dX5_lamp_111 : decode cX5_lamp 111 = .ok (.lmul, 1) := dk_105 (dk_at dksX5_lamp_4 17 rfl rfl)
theorem dX5_lamp_112 : decode cX5_lamp 112 = .ok (.ladd, 1) := dk_97 (dk_at dksX5_lamp_4 18 rfl rfl)
theorem dX5_lamp_113 : decode cX5_lamp 113 = .ok (.lstore 10, 2) := dk_55 10 (dk_at dksX5_lamp_4 19 rfl rfl)
theorem dX5_lamp_115 : decode cX5_lamp 115 = .ok (.iload 4, 2) := dk_21 4 (dk_at dksX5_lamp_4 21 rfl rfl)
theorem dX5_lamp_117 : decode cX5_lamp 117 = .ok (.ifCond .le 22, 3) := dk_158 0 22 (dk_at dksX5_lamp_5 0 rfl rfl)
theorem dX5_lamp_120 : decode cX5_lamp 120 = .ok (.lload 10, 2) := dk_22 10 (dk_at dksX5_lamp_5 3 rfl rfl)
theorem dX5_lamp_122 : decode cX5_lamp 122 = .ok (.iload 4, 2) := dk_21 4 (dk_at dksX5_lamp_5 5 rfl rfl)
theorem dX5_lamp_124 : decode cX5_lamp 124 = .ok (.i2l, 1) := dk_133 (dk_at dksX5_lamp_5 7 rfl rfl)
theorem dX5_lamp_125 : decode cX5_lamp 125 = .ok (.lmul, 1) := dk_105 (dk_at dksX5_lamp_5 8 rfl rfl)
theorem dX5_lamp_126 : decode cX5_lamp 126 = .ok (.lload 6, 2) := dk_22 6 (dk_at dksX5_lamp_5 9 rfl rfl)
theorem dX5_lamp_128 : decode cX5_lamp 128 = .ok (.iload 8, 2) := dk_21 8 (dk_at dksX5_lamp_5 11 rfl rfl)
theorem dX5_lamp_130 : decode cX5_lamp 130 = .ok (.i2l, 1) := dk_133 (dk_at dksX5_lamp_5 13 rfl rfl)
theorem dX5_lamp_131 : decode cX5_lamp 131 = .ok (.lmul, 1) := dk_105 (dk_at dksX5_lamp_5 14 rfl rfl)
theorem dX5_lamp_132 : decode cX5_lamp 132 = .ok (.lcmp, 1) := dk_148 (dk_at dksX5_lamp_5 15 rfl rfl)
theorem dX5_lamp_133 : decode cX5_lamp 133 = .ok (.ifCond .lt 6, 3) := dk_155 0 6 (dk_at dksX5_lamp_5 16 rfl rfl)
theorem dX5_lamp_136 : decode cX5_lamp 136 = .ok (.goto 15, 3) := dk_167 0 15 (dk_at dksX5_lamp_5 19 rfl rfl)
theorem dX5_lamp_139 : decode cX5_lamp 139 = .ok (.iload 8, 2) := dk_21 8 (dk_at dksX5_lamp_5 22 rfl rfl)
theorem dX5_lamp_141 : decode cX5_lamp 141 = .ok (.istore 4, 2) := dk_54 4 (dk_at dksX5_lamp_6 0 rfl rfl)
theorem dX5_lamp_143 : decode cX5_lamp 143 = .ok (.iload 9, 2) := dk_21 9 (dk_at dksX5_lamp_6 2 rfl rfl)
theorem dX5_lamp_145 : decode cX5_lamp 145 = .ok (.istore 5, 2) := dk_54 5 (dk_at dksX5_lamp_6 4 rfl rfl)
theorem dX5_lamp_147 : decode cX5_lamp 147 = .ok (.lload 10, 2) := dk_22 10 (dk_at dksX5_lamp_6 6 rfl rfl)
theorem dX5_lamp_149 : decode cX5_lamp 149 = .ok (.lstore 6, 2) := dk_55 6 (dk_at dksX5_lamp_6 8 rfl rfl)
theorem dX5_lamp_151 : decode cX5_lamp 151 = .ok (.iinc 9 1, 3) := dk_132 9 1 (dk_at dksX5_lamp_6 10 rfl rfl)
theorem dX5_lamp_154 : decode cX5_lamp 154 = .ok (.goto (-78), 3) := dk_167 255 178 (dk_at dksX5_lamp_6 13 rfl rfl)
theorem dX5_lamp_157 : decode cX5_lamp 157 = .ok (.iinc 8 1, 3) := dk_132 8 1 (dk_at dksX5_lamp_6 16 rfl rfl)
theorem dX5_lamp_160 : decode cX5_lamp 160 = .ok (.goto (-94), 3) := dk_167 255 162 (dk_at dksX5_lamp_6 19 rfl rfl)
theorem dX5_lamp_163 : decode cX5_lamp 163 = .ok (.iload_n 3, 1) := dk_29 (dk_at dksX5_lamp_6 22 rfl rfl)
theorem dX5_lamp_164 : decode cX5_lamp 164 = .ok (.ifCond .ne 8, 3) := dk_154 0 8 (dk_at dksX5_lamp_7 0 rfl rfl)
theorem dX5_lamp_167 : decode cX5_lamp 167 = .ok (.iload 4, 2) := dk_21 4 (dk_at dksX5_lamp_7 3 rfl rfl)
theorem dX5_lamp_169 : decode cX5_lamp 169 = .ok (.goto 5, 3) := dk_167 0 5 (dk_at dksX5_lamp_7 5 rfl rfl)
theorem dX5_lamp_172 : decode cX5_lamp 172 = .ok (.iload 5, 2) := dk_21 5 (dk_at dksX5_lamp_7 8 rfl rfl)
theorem dX5_lamp_174 : decode cX5_lamp 174 = .ok (.ireturn, 1) := dk_172 (dk_at dksX5_lamp_7 10 rfl rfl)
abbrev cX5_pay : ByteArray := prog_21_method_99_code
def yX5_pay : MethodName := ⟨RX5, "pay", "(IIII)I"⟩
def dkwX5_pay_3 : List UInt8 := [182, 1, 113, 46, 54, 5, 42, 180, 0, 17, 42, 27, 28, 29, 182, 1, 113, 21, 4, 79, 21, 5, 172]
abbrev dktX5_pay_3 : List UInt8 := dkwX5_pay_3 ++ []
def dkwX5_pay_2 : List UInt8 := [184, 0, 152, 154, 0, 11, 42, 17, 252, 24, 182, 1, 27, 172, 42, 180, 0, 17, 42, 27, 28, 29]
abbrev dktX5_pay_2 : List UInt8 := dkwX5_pay_2 ++ dktX5_pay_3
def dkwX5_pay_1 : List UInt8 := [153, 0, 30, 29, 133, 9, 20, 1, 105, 184, 0, 152, 153, 0, 18, 21, 4, 133, 20, 1, 111, 20, 1, 25]
abbrev dktX5_pay_1 : List UInt8 := dkwX5_pay_1 ++ dktX5_pay_2
def dkwX5_pay_0 : List UInt8 := [42, 3, 181, 0, 1, 27, 133, 9, 10, 184, 0, 152, 153, 0, 40, 28, 133, 9, 10, 184, 0, 152]
abbrev dktX5_pay_0 : List UInt8 := dkwX5_pay_0 ++ dktX5_pay_1
theorem dksX5_pay_0 : cX5_pay.data.toList.drop 0 = dktX5_pay_0 := by decide +kernel
theorem dksX5_pay_1 : cX5_pay.data.toList.drop 22 = dktX5_pay_1 := dk_seg dksX5_pay_0 22 rfl rfl
theorem dksX5_pay_2 : cX5_pay.data.toList.drop 46 = dktX5_pay_2 := dk_seg dksX5_pay_1 24 rfl rfl
theorem dksX5_pay_3 : cX5_pay.data.toList.drop 68 = dktX5_pay_3 := dk_seg dksX5_pay_2 22 rfl rfl
theorem dX5_pay_0 : decode cX5_pay 0 = .ok (.aload_n 0, 1) := dk_42 (dk_at dksX5_pay_0 0 rfl rfl)
theorem dX5_pay_1 : decode cX5_pay 1 = .ok (.iconst 0, 1) := dk_3 (dk_at dksX5_pay_0 1 rfl rfl)
theorem dX5_pay_2 : decode cX5_pay 2 = .ok (.putfield 1, 3) := dk_181 0 1 (dk_at dksX5_pay_0 2 rfl rfl)
theorem dX5_pay_5 : decode cX5_pay 5 = .ok (.iload_n 1, 1) := dk_27 (dk_at dksX5_pay_0 5 rfl rfl)
theorem dX5_pay_6 : decode cX5_pay 6 = .ok (.i2l, 1) := dk_133 (dk_at dksX5_pay_0 6 rfl rfl)
theorem dX5_pay_7 : decode cX5_pay 7 = .ok (.lconst 0, 1) := dk_9 (dk_at dksX5_pay_0 7 rfl rfl)
theorem dX5_pay_8 : decode cX5_pay 8 = .ok (.lconst 1, 1) := dk_10 (dk_at dksX5_pay_0 8 rfl rfl)
theorem dX5_pay_9 : decode cX5_pay 9 = .ok (.invokestatic 152, 3) := dk_184 0 152 (dk_at dksX5_pay_0 9 rfl rfl)
theorem dX5_pay_12 : decode cX5_pay 12 = .ok (.ifCond .eq 40, 3) := dk_153 0 40 (dk_at dksX5_pay_0 12 rfl rfl)
theorem dX5_pay_15 : decode cX5_pay 15 = .ok (.iload_n 2, 1) := dk_28 (dk_at dksX5_pay_0 15 rfl rfl)
theorem dX5_pay_16 : decode cX5_pay 16 = .ok (.i2l, 1) := dk_133 (dk_at dksX5_pay_0 16 rfl rfl)
theorem dX5_pay_17 : decode cX5_pay 17 = .ok (.lconst 0, 1) := dk_9 (dk_at dksX5_pay_0 17 rfl rfl)
theorem dX5_pay_18 : decode cX5_pay 18 = .ok (.lconst 1, 1) := dk_10 (dk_at dksX5_pay_0 18 rfl rfl)
theorem dX5_pay_19 : decode cX5_pay 19 = .ok (.invokestatic 152, 3) := dk_184 0 152 (dk_at dksX5_pay_0 19 rfl rfl)
theorem dX5_pay_22 : decode cX5_pay 22 = .ok (.ifCond .eq 30, 3) := dk_153 0 30 (dk_at dksX5_pay_1 0 rfl rfl)
theorem dX5_pay_25 : decode cX5_pay 25 = .ok (.iload_n 3, 1) := dk_29 (dk_at dksX5_pay_1 3 rfl rfl)
theorem dX5_pay_26 : decode cX5_pay 26 = .ok (.i2l, 1) := dk_133 (dk_at dksX5_pay_1 4 rfl rfl)
theorem dX5_pay_27 : decode cX5_pay 27 = .ok (.lconst 0, 1) := dk_9 (dk_at dksX5_pay_1 5 rfl rfl)
theorem dX5_pay_28 : decode cX5_pay 28 = .ok (.ldc2_w 361, 3) := dk_20 1 105 (dk_at dksX5_pay_1 6 rfl rfl)
theorem dX5_pay_31 : decode cX5_pay 31 = .ok (.invokestatic 152, 3) := dk_184 0 152 (dk_at dksX5_pay_1 9 rfl rfl)
theorem dX5_pay_34 : decode cX5_pay 34 = .ok (.ifCond .eq 18, 3) := dk_153 0 18 (dk_at dksX5_pay_1 12 rfl rfl)
theorem dX5_pay_37 : decode cX5_pay 37 = .ok (.iload 4, 2) := dk_21 4 (dk_at dksX5_pay_1 15 rfl rfl)
theorem dX5_pay_39 : decode cX5_pay 39 = .ok (.i2l, 1) := dk_133 (dk_at dksX5_pay_1 17 rfl rfl)
theorem dX5_pay_40 : decode cX5_pay 40 = .ok (.ldc2_w 367, 3) := dk_20 1 111 (dk_at dksX5_pay_1 18 rfl rfl)
theorem dX5_pay_43 : decode cX5_pay 43 = .ok (.ldc2_w 281, 3) := dk_20 1 25 (dk_at dksX5_pay_1 21 rfl rfl)
theorem dX5_pay_46 : decode cX5_pay 46 = .ok (.invokestatic 152, 3) := dk_184 0 152 (dk_at dksX5_pay_2 0 rfl rfl)
theorem dX5_pay_49 : decode cX5_pay 49 = .ok (.ifCond .ne 11, 3) := dk_154 0 11 (dk_at dksX5_pay_2 3 rfl rfl)
theorem dX5_pay_52 : decode cX5_pay 52 = .ok (.aload_n 0, 1) := dk_42 (dk_at dksX5_pay_2 6 rfl rfl)
theorem dX5_pay_53 : decode cX5_pay 53 = .ok (.sipush (-1000), 3) := dk_17 252 24 (dk_at dksX5_pay_2 7 rfl rfl)
theorem dX5_pay_56 : decode cX5_pay 56 = .ok (.invokevirtual 283, 3) := dk_182 1 27 (dk_at dksX5_pay_2 10 rfl rfl)
theorem dX5_pay_59 : decode cX5_pay 59 = .ok (.ireturn, 1) := dk_172 (dk_at dksX5_pay_2 13 rfl rfl)
theorem dX5_pay_60 : decode cX5_pay 60 = .ok (.aload_n 0, 1) := dk_42 (dk_at dksX5_pay_2 14 rfl rfl)
theorem dX5_pay_61 : decode cX5_pay 61 = .ok (.getfield 17, 3) := dk_180 0 17 (dk_at dksX5_pay_2 15 rfl rfl)
theorem dX5_pay_64 : decode cX5_pay 64 = .ok (.aload_n 0, 1) := dk_42 (dk_at dksX5_pay_2 18 rfl rfl)
theorem dX5_pay_65 : decode cX5_pay 65 = .ok (.iload_n 1, 1) := dk_27 (dk_at dksX5_pay_2 19 rfl rfl)
theorem dX5_pay_66 : decode cX5_pay 66 = .ok (.iload_n 2, 1) := dk_28 (dk_at dksX5_pay_2 20 rfl rfl)
theorem dX5_pay_67 : decode cX5_pay 67 = .ok (.iload_n 3, 1) := dk_29 (dk_at dksX5_pay_2 21 rfl rfl)
theorem dX5_pay_68 : decode cX5_pay 68 = .ok (.invokevirtual 369, 3) := dk_182 1 113 (dk_at dksX5_pay_3 0 rfl rfl)
theorem dX5_pay_71 : decode cX5_pay 71 = .ok (.iaload, 1) := dk_46 (dk_at dksX5_pay_3 3 rfl rfl)
theorem dX5_pay_72 : decode cX5_pay 72 = .ok (.istore 5, 2) := dk_54 5 (dk_at dksX5_pay_3 4 rfl rfl)
theorem dX5_pay_74 : decode cX5_pay 74 = .ok (.aload_n 0, 1) := dk_42 (dk_at dksX5_pay_3 6 rfl rfl)
theorem dX5_pay_75 : decode cX5_pay 75 = .ok (.getfield 17, 3) := dk_180 0 17 (dk_at dksX5_pay_3 7 rfl rfl)
theorem dX5_pay_78 : decode cX5_pay 78 = .ok (.aload_n 0, 1) := dk_42 (dk_at dksX5_pay_3 10 rfl rfl)
theorem dX5_pay_79 : decode cX5_pay 79 = .ok (.iload_n 1, 1) := dk_27 (dk_at dksX5_pay_3 11 rfl rfl)
theorem dX5_pay_80 : decode cX5_pay 80 = .ok (.iload_n 2, 1) := dk_28 (dk_at dksX5_pay_3 12 rfl rfl)
theorem dX5_pay_81 : decode cX5_pay 81 = .ok (.iload_n 3, 1) := dk_29 (dk_at dksX5_pay_3 13 rfl rfl)
theorem dX5_pay_82 : decode cX5_pay 82 = .ok (.invokevirtual 369, 3) := dk_182 1 113 (dk_at dksX5_pay_3 14 rfl rfl)
theorem dX5_pay_85 : decode cX5_pay 85 = .ok (.iload 4, 2) := dk_21 4 (dk_at dksX5_pay_3 17 rfl rfl)
theorem dX5_pay_87 : decode cX5_pay 87 = .ok (.iastore, 1) := dk_79 (dk_at dksX5_pay_3 19 rfl rfl)
theorem dX5_pay_88 : decode cX5_pay 88 = .ok (.iload 5, 2) := dk_21 5 (dk_at dksX5_pay_3 20 rfl rfl)
theorem dX5_pay_90 : decode cX5_pay 90 = .ok (.ireturn, 1) := dk_172 (dk_at dksX5_pay_3 22 rfl rfl)
abbrev cX5_payAt : ByteArray := prog_21_method_98_code
def yX5_payAt : MethodName := ⟨RX5, "payAt", "(III)I"⟩
def dkwX5_payAt_0 : List UInt8 := [17, 2, 46, 16, 10, 27, 104, 96, 8, 28, 104, 96, 29, 96, 172]
abbrev dktX5_payAt_0 : List UInt8 := dkwX5_payAt_0 ++ []
theorem dksX5_payAt_0 : cX5_payAt.data.toList.drop 0 = dktX5_payAt_0 := by decide +kernel
theorem dX5_payAt_0 : decode cX5_payAt 0 = .ok (.sipush 558, 3) := dk_17 2 46 (dk_at dksX5_payAt_0 0 rfl rfl)
theorem dX5_payAt_3 : decode cX5_payAt 3 = .ok (.bipush 10, 2) := dk_16 10 (dk_at dksX5_payAt_0 3 rfl rfl)
theorem dX5_payAt_5 : decode cX5_payAt 5 = .ok (.iload_n 1, 1) := dk_27 (dk_at dksX5_payAt_0 5 rfl rfl)
theorem dX5_payAt_6 : decode cX5_payAt 6 = .ok (.imul, 1) := dk_104 (dk_at dksX5_payAt_0 6 rfl rfl)
theorem dX5_payAt_7 : decode cX5_payAt 7 = .ok (.iadd, 1) := dk_96 (dk_at dksX5_payAt_0 7 rfl rfl)
theorem dX5_payAt_8 : decode cX5_payAt 8 = .ok (.iconst 5, 1) := dk_8 (dk_at dksX5_payAt_0 8 rfl rfl)
theorem dX5_payAt_9 : decode cX5_payAt 9 = .ok (.iload_n 2, 1) := dk_28 (dk_at dksX5_payAt_0 9 rfl rfl)
theorem dX5_payAt_10 : decode cX5_payAt 10 = .ok (.imul, 1) := dk_104 (dk_at dksX5_payAt_0 10 rfl rfl)
theorem dX5_payAt_11 : decode cX5_payAt 11 = .ok (.iadd, 1) := dk_96 (dk_at dksX5_payAt_0 11 rfl rfl)
theorem dX5_payAt_12 : decode cX5_payAt 12 = .ok (.iload_n 3, 1) := dk_29 (dk_at dksX5_payAt_0 12 rfl rfl)
theorem dX5_payAt_13 : decode cX5_payAt 13 = .ok (.iadd, 1) := dk_96 (dk_at dksX5_payAt_0 13 rfl rfl)
theorem dX5_payAt_14 : decode cX5_payAt 14 = .ok (.ireturn, 1) := dk_172 (dk_at dksX5_payAt_0 14 rfl rfl)
abbrev cX5_rests : ByteArray := prog_21_method_101_code
def yX5_rests : MethodName := ⟨RX5, "rests", "(III)I"⟩
def dkwX5_rests_6 : List UInt8 := [154, 0, 8, 21, 4, 167, 0, 5, 21, 5, 172]
abbrev dktX5_rests_6 : List UInt8 := dkwX5_rests_6 ++ []
def dkwX5_rests_5 : List UInt8 := [104, 21, 7, 96, 167, 0, 5, 21, 5, 54, 5, 132, 7, 1, 167, 255, 194, 132, 6, 1, 167, 255, 179, 29]
abbrev dktX5_rests_5 : List UInt8 := dkwX5_rests_5 ++ dktX5_rests_6
def dkwX5_rests_4 : List UInt8 := [21, 6, 182, 1, 117, 154, 0, 6, 167, 0, 27, 132, 4, 1, 21, 5, 2, 160, 0, 14, 16, 10, 21, 6]
abbrev dktX5_rests_4 : List UInt8 := dkwX5_rests_4 ++ dktX5_rests_5
def dkwX5_rests_3 : List UInt8 := [21, 7, 28, 163, 0, 62, 42, 3, 21, 6, 27, 21, 7, 182, 1, 117, 153, 0, 43, 42, 4, 21, 7, 28]
abbrev dktX5_rests_3 : List UInt8 := dkwX5_rests_3 ++ dktX5_rests_4
def dkwX5_rests_2 : List UInt8 := [16, 253, 182, 0, 89, 172, 3, 54, 4, 2, 54, 5, 3, 54, 6, 21, 6, 27, 163, 0, 77, 3, 54, 7]
abbrev dktX5_rests_2 : List UInt8 := dkwX5_rests_2 ++ dktX5_rests_3
def dkwX5_rests_1 : List UInt8 := [9, 20, 1, 105, 184, 0, 152, 153, 0, 15, 28, 133, 9, 20, 1, 105, 184, 0, 152, 154, 0, 10, 42]
abbrev dktX5_rests_1 : List UInt8 := dkwX5_rests_1 ++ dktX5_rests_2
def dkwX5_rests_0 : List UInt8 := [42, 3, 181, 0, 1, 29, 133, 9, 10, 184, 0, 152, 154, 0, 10, 42, 16, 254, 182, 0, 89, 172, 27, 133]
abbrev dktX5_rests_0 : List UInt8 := dkwX5_rests_0 ++ dktX5_rests_1
theorem dksX5_rests_0 : cX5_rests.data.toList.drop 0 = dktX5_rests_0 := by decide +kernel
theorem dksX5_rests_1 : cX5_rests.data.toList.drop 24 = dktX5_rests_1 := dk_seg dksX5_rests_0 24 rfl rfl
theorem dksX5_rests_2 : cX5_rests.data.toList.drop 47 = dktX5_rests_2 := dk_seg dksX5_rests_1 23 rfl rfl
theorem dksX5_rests_3 : cX5_rests.data.toList.drop 71 = dktX5_rests_3 := dk_seg dksX5_rests_2 24 rfl rfl
theorem dksX5_rests_4 : cX5_rests.data.toList.drop 95 = dktX5_rests_4 := dk_seg dksX5_rests_3 24 rfl rfl
theorem dksX5_rests_5 : cX5_rests.data.toList.drop 119 = dktX5_rests_5 := dk_seg dksX5_rests_4 24 rfl rfl
theorem dksX5_rests_6 : cX5_rests.data.toList.drop 143 = dktX5_rests_6 := dk_seg dksX5_rests_5 24 rfl rfl
theorem dX5_rests_0 : decode cX5_rests 0 = .ok (.aload_n 0, 1) := dk_42 (dk_at dksX5_rests_0 0 rfl rfl)
theorem dX5_rests_1 : decode cX5_rests 1 = .ok (.iconst 0, 1) := dk_3 (dk_at dksX5_rests_0 1 rfl rfl)
theorem dX5_rests_2 : decode cX5_rests 2 = .ok (.putfield 1, 3) := dk_181 0 1 (dk_at dksX5_rests_0 2 rfl rfl)
theorem dX5_rests_5 : decode cX5_rests 5 = .ok (.iload_n 3, 1) := dk_29 (dk_at dksX5_rests_0 5 rfl rfl)
theorem dX5_rests_6 : decode cX5_rests 6 = .ok (.i2l, 1) := dk_133 (dk_at dksX5_rests_0 6 rfl rfl)
theorem dX5_rests_7 : decode cX5_rests 7 = .ok (.lconst 0, 1) := dk_9 (dk_at dksX5_rests_0 7 rfl rfl)
theorem dX5_rests_8 : decode cX5_rests 8 = .ok (.lconst 1, 1) := dk_10 (dk_at dksX5_rests_0 8 rfl rfl)
theorem dX5_rests_9 : decode cX5_rests 9 = .ok (.invokestatic 152, 3) := dk_184 0 152 (dk_at dksX5_rests_0 9 rfl rfl)
theorem dX5_rests_12 : decode cX5_rests 12 = .ok (.ifCond .ne 10, 3) := dk_154 0 10 (dk_at dksX5_rests_0 12 rfl rfl)
theorem dX5_rests_15 : decode cX5_rests 15 = .ok (.aload_n 0, 1) := dk_42 (dk_at dksX5_rests_0 15 rfl rfl)
theorem dX5_rests_16 : decode cX5_rests 16 = .ok (.bipush (-2), 2) := dk_16 254 (dk_at dksX5_rests_0 16 rfl rfl)
theorem dX5_rests_18 : decode cX5_rests 18 = .ok (.invokevirtual 89, 3) := dk_182 0 89 (dk_at dksX5_rests_0 18 rfl rfl)
theorem dX5_rests_21 : decode cX5_rests 21 = .ok (.ireturn, 1) := dk_172 (dk_at dksX5_rests_0 21 rfl rfl)
theorem dX5_rests_22 : decode cX5_rests 22 = .ok (.iload_n 1, 1) := dk_27 (dk_at dksX5_rests_0 22 rfl rfl)
theorem dX5_rests_23 : decode cX5_rests 23 = .ok (.i2l, 1) := dk_133 (dk_at dksX5_rests_0 23 rfl rfl)
theorem dX5_rests_24 : decode cX5_rests 24 = .ok (.lconst 0, 1) := dk_9 (dk_at dksX5_rests_1 0 rfl rfl)
theorem dX5_rests_25 : decode cX5_rests 25 = .ok (.ldc2_w 361, 3) := dk_20 1 105 (dk_at dksX5_rests_1 1 rfl rfl)
theorem dX5_rests_28 : decode cX5_rests 28 = .ok (.invokestatic 152, 3) := dk_184 0 152 (dk_at dksX5_rests_1 4 rfl rfl)
theorem dX5_rests_31 : decode cX5_rests 31 = .ok (.ifCond .eq 15, 3) := dk_153 0 15 (dk_at dksX5_rests_1 7 rfl rfl)
theorem dX5_rests_34 : decode cX5_rests 34 = .ok (.iload_n 2, 1) := dk_28 (dk_at dksX5_rests_1 10 rfl rfl)
theorem dX5_rests_35 : decode cX5_rests 35 = .ok (.i2l, 1) := dk_133 (dk_at dksX5_rests_1 11 rfl rfl)
theorem dX5_rests_36 : decode cX5_rests 36 = .ok (.lconst 0, 1) := dk_9 (dk_at dksX5_rests_1 12 rfl rfl)
theorem dX5_rests_37 : decode cX5_rests 37 = .ok (.ldc2_w 361, 3) := dk_20 1 105 (dk_at dksX5_rests_1 13 rfl rfl)
theorem dX5_rests_40 : decode cX5_rests 40 = .ok (.invokestatic 152, 3) := dk_184 0 152 (dk_at dksX5_rests_1 16 rfl rfl)
theorem dX5_rests_43 : decode cX5_rests 43 = .ok (.ifCond .ne 10, 3) := dk_154 0 10 (dk_at dksX5_rests_1 19 rfl rfl)
theorem dX5_rests_46 : decode cX5_rests 46 = .ok (.aload_n 0, 1) := dk_42 (dk_at dksX5_rests_1 22 rfl rfl)
theorem dX5_rests_47 : decode cX5_rests 47 = .ok (.bipush (-3), 2) := dk_16 253 (dk_at dksX5_rests_2 0 rfl rfl)
theorem dX5_rests_49 : decode cX5_rests 49 = .ok (.invokevirtual 89, 3) := dk_182 0 89 (dk_at dksX5_rests_2 2 rfl rfl)
theorem dX5_rests_52 : decode cX5_rests 52 = .ok (.ireturn, 1) := dk_172 (dk_at dksX5_rests_2 5 rfl rfl)
theorem dX5_rests_53 : decode cX5_rests 53 = .ok (.iconst 0, 1) := dk_3 (dk_at dksX5_rests_2 6 rfl rfl)
theorem dX5_rests_54 : decode cX5_rests 54 = .ok (.istore 4, 2) := dk_54 4 (dk_at dksX5_rests_2 7 rfl rfl)
theorem dX5_rests_56 : decode cX5_rests 56 = .ok (.iconst (-1), 1) := dk_2 (dk_at dksX5_rests_2 9 rfl rfl)
theorem dX5_rests_57 : decode cX5_rests 57 = .ok (.istore 5, 2) := dk_54 5 (dk_at dksX5_rests_2 10 rfl rfl)
theorem dX5_rests_59 : decode cX5_rests 59 = .ok (.iconst 0, 1) := dk_3 (dk_at dksX5_rests_2 12 rfl rfl)
theorem dX5_rests_60 : decode cX5_rests 60 = .ok (.istore 6, 2) := dk_54 6 (dk_at dksX5_rests_2 13 rfl rfl)
theorem dX5_rests_62 : decode cX5_rests 62 = .ok (.iload 6, 2) := dk_21 6 (dk_at dksX5_rests_2 15 rfl rfl)
theorem dX5_rests_64 : decode cX5_rests 64 = .ok (.iload_n 1, 1) := dk_27 (dk_at dksX5_rests_2 17 rfl rfl)
theorem dX5_rests_65 : decode cX5_rests 65 = .ok (.if_icmp .gt 77, 3) := dk_163 0 77 (dk_at dksX5_rests_2 18 rfl rfl)
theorem dX5_rests_68 : decode cX5_rests 68 = .ok (.iconst 0, 1) := dk_3 (dk_at dksX5_rests_2 21 rfl rfl)
theorem dX5_rests_69 : decode cX5_rests 69 = .ok (.istore 7, 2) := dk_54 7 (dk_at dksX5_rests_2 22 rfl rfl)
theorem dX5_rests_71 : decode cX5_rests 71 = .ok (.iload 7, 2) := dk_21 7 (dk_at dksX5_rests_3 0 rfl rfl)
theorem dX5_rests_73 : decode cX5_rests 73 = .ok (.iload_n 2, 1) := dk_28 (dk_at dksX5_rests_3 2 rfl rfl)
theorem dX5_rests_74 : decode cX5_rests 74 = .ok (.if_icmp .gt 62, 3) := dk_163 0 62 (dk_at dksX5_rests_3 3 rfl rfl)
theorem dX5_rests_77 : decode cX5_rests 77 = .ok (.aload_n 0, 1) := dk_42 (dk_at dksX5_rests_3 6 rfl rfl)
theorem dX5_rests_78 : decode cX5_rests 78 = .ok (.iconst 0, 1) := dk_3 (dk_at dksX5_rests_3 7 rfl rfl)
theorem dX5_rests_79 : decode cX5_rests 79 = .ok (.iload 6, 2) := dk_21 6 (dk_at dksX5_rests_3 8 rfl rfl)
theorem dX5_rests_81 : decode cX5_rests 81 = .ok (.iload_n 1, 1) := dk_27 (dk_at dksX5_rests_3 10 rfl rfl)
theorem dX5_rests_82 : decode cX5_rests 82 = .ok (.iload 7, 2) := dk_21 7 (dk_at dksX5_rests_3 11 rfl rfl)
theorem dX5_rests_84 : decode cX5_rests 84 = .ok (.invokevirtual 373, 3) := dk_182 1 117 (dk_at dksX5_rests_3 13 rfl rfl)
theorem dX5_rests_87 : decode cX5_rests 87 = .ok (.ifCond .eq 43, 3) := dk_153 0 43 (dk_at dksX5_rests_3 16 rfl rfl)
theorem dX5_rests_90 : decode cX5_rests 90 = .ok (.aload_n 0, 1) := dk_42 (dk_at dksX5_rests_3 19 rfl rfl)
theorem dX5_rests_91 : decode cX5_rests 91 = .ok (.iconst 1, 1) := dk_4 (dk_at dksX5_rests_3 20 rfl rfl)
theorem dX5_rests_92 : decode cX5_rests 92 = .ok (.iload 7, 2) := dk_21 7 (dk_at dksX5_rests_3 21 rfl rfl)
theorem dX5_rests_94 : decode cX5_rests 94 = .ok (.iload_n 2, 1) := dk_28 (dk_at dksX5_rests_3 23 rfl rfl)
theorem dX5_rests_95 : decode cX5_rests 95 = .ok (.iload 6, 2) := dk_21 6 (dk_at dksX5_rests_4 0 rfl rfl)
theorem dX5_rests_97 : decode cX5_rests 97 = .ok (.invokevirtual 373, 3) := dk_182 1 117 (dk_at dksX5_rests_4 2 rfl rfl)
theorem dX5_rests_100 : decode cX5_rests 100 = .ok (.ifCond .ne 6, 3) := dk_154 0 6 (dk_at dksX5_rests_4 5 rfl rfl)
theorem dX5_rests_103 : decode cX5_rests 103 = .ok (.goto 27, 3) := dk_167 0 27 (dk_at dksX5_rests_4 8 rfl rfl)
theorem dX5_rests_106 : decode cX5_rests 106 = .ok (.iinc 4 1, 3) := dk_132 4 1 (dk_at dksX5_rests_4 11 rfl rfl)
theorem dX5_rests_109 : decode cX5_rests 109 = .ok (.iload 5, 2) := dk_21 5 (dk_at dksX5_rests_4 14 rfl rfl)
theorem dX5_rests_111 : decode cX5_rests 111 = .ok (.iconst (-1), 1) := dk_2 (dk_at dksX5_rests_4 16 rfl rfl)
theorem dX5_rests_112 : decode cX5_rests 112 = .ok (.if_icmp .ne 14, 3) := dk_160 0 14 (dk_at dksX5_rests_4 17 rfl rfl)
theorem dX5_rests_115 : decode cX5_rests 115 = .ok (.bipush 10, 2) := dk_16 10 (dk_at dksX5_rests_4 20 rfl rfl)
theorem dX5_rests_117 : decode cX5_rests 117 = .ok (.iload 6, 2) := dk_21 6 (dk_at dksX5_rests_4 22 rfl rfl)
theorem dX5_rests_119 : decode cX5_rests 119 = .ok (.imul, 1) := dk_104 (dk_at dksX5_rests_5 0 rfl rfl)
theorem dX5_rests_120 : decode cX5_rests 120 = .ok (.iload 7, 2) := dk_21 7 (dk_at dksX5_rests_5 1 rfl rfl)
theorem dX5_rests_122 : decode cX5_rests 122 = .ok (.iadd, 1) := dk_96 (dk_at dksX5_rests_5 3 rfl rfl)
theorem dX5_rests_123 : decode cX5_rests 123 = .ok (.goto 5, 3) := dk_167 0 5 (dk_at dksX5_rests_5 4 rfl rfl)
theorem dX5_rests_126 : decode cX5_rests 126 = .ok (.iload 5, 2) := dk_21 5 (dk_at dksX5_rests_5 7 rfl rfl)
theorem dX5_rests_128 : decode cX5_rests 128 = .ok (.istore 5, 2) := dk_54 5 (dk_at dksX5_rests_5 9 rfl rfl)
theorem dX5_rests_130 : decode cX5_rests 130 = .ok (.iinc 7 1, 3) := dk_132 7 1 (dk_at dksX5_rests_5 11 rfl rfl)
theorem dX5_rests_133 : decode cX5_rests 133 = .ok (.goto (-62), 3) := dk_167 255 194 (dk_at dksX5_rests_5 14 rfl rfl)
theorem dX5_rests_136 : decode cX5_rests 136 = .ok (.iinc 6 1, 3) := dk_132 6 1 (dk_at dksX5_rests_5 17 rfl rfl)
theorem dX5_rests_139 : decode cX5_rests 139 = .ok (.goto (-77), 3) := dk_167 255 179 (dk_at dksX5_rests_5 20 rfl rfl)
theorem dX5_rests_142 : decode cX5_rests 142 = .ok (.iload_n 3, 1) := dk_29 (dk_at dksX5_rests_5 23 rfl rfl)
theorem dX5_rests_143 : decode cX5_rests 143 = .ok (.ifCond .ne 8, 3) := dk_154 0 8 (dk_at dksX5_rests_6 0 rfl rfl)
theorem dX5_rests_146 : decode cX5_rests 146 = .ok (.iload 4, 2) := dk_21 4 (dk_at dksX5_rests_6 3 rfl rfl)
theorem dX5_rests_148 : decode cX5_rests 148 = .ok (.goto 5, 3) := dk_167 0 5 (dk_at dksX5_rests_6 5 rfl rfl)
theorem dX5_rests_151 : decode cX5_rests 151 = .ok (.iload 5, 2) := dk_21 5 (dk_at dksX5_rests_6 8 rfl rfl)
theorem dX5_rests_153 : decode cX5_rests 153 = .ok (.ireturn, 1) := dk_172 (dk_at dksX5_rests_6 10 rfl rfl)
abbrev cX5_isRest : ByteArray := prog_21_method_100_code
def yX5_isRest : MethodName := ⟨RX5, "isRest", "(IIII)Z"⟩
def dkwX5_isRest_2 : List UInt8 := [21, 5, 161, 0, 7, 4, 167, 0, 4, 3, 172]
abbrev dktX5_isRest_2 : List UInt8 := dkwX5_isRest_2 ++ []
def dkwX5_isRest_1 : List UInt8 := [182, 1, 113, 46, 54, 6, 28, 153, 0, 10, 21, 5, 21, 6, 161, 0, 19, 28, 29, 159, 0, 10, 21, 6]
abbrev dktX5_isRest_1 : List UInt8 := dkwX5_isRest_1 ++ dktX5_isRest_2
def dkwX5_isRest_0 : List UInt8 := [42, 180, 0, 17, 42, 27, 4, 21, 4, 182, 1, 113, 46, 54, 5, 42, 180, 0, 17, 42, 27, 3, 21, 4]
abbrev dktX5_isRest_0 : List UInt8 := dkwX5_isRest_0 ++ dktX5_isRest_1
theorem dksX5_isRest_0 : cX5_isRest.data.toList.drop 0 = dktX5_isRest_0 := by decide +kernel
theorem dksX5_isRest_1 : cX5_isRest.data.toList.drop 24 = dktX5_isRest_1 := dk_seg dksX5_isRest_0 24 rfl rfl
theorem dksX5_isRest_2 : cX5_isRest.data.toList.drop 48 = dktX5_isRest_2 := dk_seg dksX5_isRest_1 24 rfl rfl
theorem dX5_isRest_0 : decode cX5_isRest 0 = .ok (.aload_n 0, 1) := dk_42 (dk_at dksX5_isRest_0 0 rfl rfl)
theorem dX5_isRest_1 : decode cX5_isRest 1 = .ok (.getfield 17, 3) := dk_180 0 17 (dk_at dksX5_isRest_0 1 rfl rfl)
theorem dX5_isRest_4 : decode cX5_isRest 4 = .ok (.aload_n 0, 1) := dk_42 (dk_at dksX5_isRest_0 4 rfl rfl)
theorem dX5_isRest_5 : decode cX5_isRest 5 = .ok (.iload_n 1, 1) := dk_27 (dk_at dksX5_isRest_0 5 rfl rfl)
theorem dX5_isRest_6 : decode cX5_isRest 6 = .ok (.iconst 1, 1) := dk_4 (dk_at dksX5_isRest_0 6 rfl rfl)
theorem dX5_isRest_7 : decode cX5_isRest 7 = .ok (.iload 4, 2) := dk_21 4 (dk_at dksX5_isRest_0 7 rfl rfl)
theorem dX5_isRest_9 : decode cX5_isRest 9 = .ok (.invokevirtual 369, 3) := dk_182 1 113 (dk_at dksX5_isRest_0 9 rfl rfl)
theorem dX5_isRest_12 : decode cX5_isRest 12 = .ok (.iaload, 1) := dk_46 (dk_at dksX5_isRest_0 12 rfl rfl)
theorem dX5_isRest_13 : decode cX5_isRest 13 = .ok (.istore 5, 2) := dk_54 5 (dk_at dksX5_isRest_0 13 rfl rfl)
theorem dX5_isRest_15 : decode cX5_isRest 15 = .ok (.aload_n 0, 1) := dk_42 (dk_at dksX5_isRest_0 15 rfl rfl)
theorem dX5_isRest_16 : decode cX5_isRest 16 = .ok (.getfield 17, 3) := dk_180 0 17 (dk_at dksX5_isRest_0 16 rfl rfl)
theorem dX5_isRest_19 : decode cX5_isRest 19 = .ok (.aload_n 0, 1) := dk_42 (dk_at dksX5_isRest_0 19 rfl rfl)
theorem dX5_isRest_20 : decode cX5_isRest 20 = .ok (.iload_n 1, 1) := dk_27 (dk_at dksX5_isRest_0 20 rfl rfl)
theorem dX5_isRest_21 : decode cX5_isRest 21 = .ok (.iconst 0, 1) := dk_3 (dk_at dksX5_isRest_0 21 rfl rfl)
theorem dX5_isRest_22 : decode cX5_isRest 22 = .ok (.iload 4, 2) := dk_21 4 (dk_at dksX5_isRest_0 22 rfl rfl)
theorem dX5_isRest_24 : decode cX5_isRest 24 = .ok (.invokevirtual 369, 3) := dk_182 1 113 (dk_at dksX5_isRest_1 0 rfl rfl)
theorem dX5_isRest_27 : decode cX5_isRest 27 = .ok (.iaload, 1) := dk_46 (dk_at dksX5_isRest_1 3 rfl rfl)
theorem dX5_isRest_28 : decode cX5_isRest 28 = .ok (.istore 6, 2) := dk_54 6 (dk_at dksX5_isRest_1 4 rfl rfl)
theorem dX5_isRest_30 : decode cX5_isRest 30 = .ok (.iload_n 2, 1) := dk_28 (dk_at dksX5_isRest_1 6 rfl rfl)
theorem dX5_isRest_31 : decode cX5_isRest 31 = .ok (.ifCond .eq 10, 3) := dk_153 0 10 (dk_at dksX5_isRest_1 7 rfl rfl)
theorem dX5_isRest_34 : decode cX5_isRest 34 = .ok (.iload 5, 2) := dk_21 5 (dk_at dksX5_isRest_1 10 rfl rfl)
theorem dX5_isRest_36 : decode cX5_isRest 36 = .ok (.iload 6, 2) := dk_21 6 (dk_at dksX5_isRest_1 12 rfl rfl)
theorem dX5_isRest_38 : decode cX5_isRest 38 = .ok (.if_icmp .lt 19, 3) := dk_161 0 19 (dk_at dksX5_isRest_1 14 rfl rfl)
theorem dX5_isRest_41 : decode cX5_isRest 41 = .ok (.iload_n 2, 1) := dk_28 (dk_at dksX5_isRest_1 17 rfl rfl)
theorem dX5_isRest_42 : decode cX5_isRest 42 = .ok (.iload_n 3, 1) := dk_29 (dk_at dksX5_isRest_1 18 rfl rfl)
theorem dX5_isRest_43 : decode cX5_isRest 43 = .ok (.if_icmp .eq 10, 3) := dk_159 0 10 (dk_at dksX5_isRest_1 19 rfl rfl)
theorem dX5_isRest_46 : decode cX5_isRest 46 = .ok (.iload 6, 2) := dk_21 6 (dk_at dksX5_isRest_1 22 rfl rfl)
theorem dX5_isRest_48 : decode cX5_isRest 48 = .ok (.iload 5, 2) := dk_21 5 (dk_at dksX5_isRest_2 0 rfl rfl)
theorem dX5_isRest_50 : decode cX5_isRest 50 = .ok (.if_icmp .lt 7, 3) := dk_161 0 7 (dk_at dksX5_isRest_2 2 rfl rfl)
theorem dX5_isRest_53 : decode cX5_isRest 53 = .ok (.iconst 1, 1) := dk_4 (dk_at dksX5_isRest_2 5 rfl rfl)
theorem dX5_isRest_54 : decode cX5_isRest 54 = .ok (.goto 4, 3) := dk_167 0 4 (dk_at dksX5_isRest_2 6 rfl rfl)
theorem dX5_isRest_57 : decode cX5_isRest 57 = .ok (.iconst 0, 1) := dk_3 (dk_at dksX5_isRest_2 9 rfl rfl)
theorem dX5_isRest_58 : decode cX5_isRest 58 = .ok (.ireturn, 1) := dk_172 (dk_at dksX5_isRest_2 10 rfl rfl)
abbrev cX5_thanks : ByteArray := prog_21_method_102_code
def yX5_thanks : MethodName := ⟨RX5, "thanks", "(IIIII)I"⟩
def dkwX5_thanks_5 : List UInt8 := [132, 8, 1, 167, 255, 218, 22, 6, 136, 172]
abbrev dktX5_thanks_5 : List UInt8 := dkwX5_thanks_5 ++ []
def dkwX5_thanks_4 : List UInt8 := [105, 29, 133, 105, 20, 1, 123, 22, 6, 28, 133, 105, 101, 21, 4, 133, 105, 97, 20, 1, 125, 109, 55, 6]
abbrev dktX5_thanks_4 : List UInt8 := dkwX5_thanks_4 ++ dktX5_thanks_5
def dkwX5_thanks_3 : List UInt8 := [16, 253, 182, 0, 89, 172, 27, 133, 55, 6, 3, 54, 8, 21, 8, 21, 5, 162, 0, 37, 22, 6, 28, 133]
abbrev dktX5_thanks_3 : List UInt8 := dkwX5_thanks_3 ++ dktX5_thanks_4
def dkwX5_thanks_2 : List UInt8 := [20, 1, 30, 184, 0, 152, 153, 0, 16, 21, 5, 133, 9, 20, 1, 25, 184, 0, 152, 154, 0, 10, 42]
abbrev dktX5_thanks_2 : List UInt8 := dkwX5_thanks_2 ++ dktX5_thanks_3
def dkwX5_thanks_1 : List UInt8 := [184, 0, 152, 153, 0, 41, 29, 133, 9, 20, 1, 30, 184, 0, 152, 153, 0, 29, 21, 4, 133, 9]
abbrev dktX5_thanks_1 : List UInt8 := dkwX5_thanks_1 ++ dktX5_thanks_2
def dkwX5_thanks_0 : List UInt8 := [42, 3, 181, 0, 1, 27, 133, 9, 20, 1, 121, 184, 0, 152, 153, 0, 53, 28, 133, 9, 20, 1, 30]
abbrev dktX5_thanks_0 : List UInt8 := dkwX5_thanks_0 ++ dktX5_thanks_1
theorem dksX5_thanks_0 : cX5_thanks.data.toList.drop 0 = dktX5_thanks_0 := by decide +kernel
theorem dksX5_thanks_1 : cX5_thanks.data.toList.drop 23 = dktX5_thanks_1 := dk_seg dksX5_thanks_0 23 rfl rfl
theorem dksX5_thanks_2 : cX5_thanks.data.toList.drop 45 = dktX5_thanks_2 := dk_seg dksX5_thanks_1 22 rfl rfl
theorem dksX5_thanks_3 : cX5_thanks.data.toList.drop 68 = dktX5_thanks_3 := dk_seg dksX5_thanks_2 23 rfl rfl
theorem dksX5_thanks_4 : cX5_thanks.data.toList.drop 92 = dktX5_thanks_4 := dk_seg dksX5_thanks_3 24 rfl rfl
theorem dksX5_thanks_5 : cX5_thanks.data.toList.drop 116 = dktX5_thanks_5 := dk_seg dksX5_thanks_4 24 rfl rfl
theorem dX5_thanks_0 : decode cX5_thanks 0 = .ok (.aload_n 0, 1) := dk_42 (dk_at dksX5_thanks_0 0 rfl rfl)
theorem dX5_thanks_1 : decode cX5_thanks 1 = .ok (.iconst 0, 1) := dk_3 (dk_at dksX5_thanks_0 1 rfl rfl)
theorem dX5_thanks_2 : decode cX5_thanks 2 = .ok (.putfield 1, 3) := dk_181 0 1 (dk_at dksX5_thanks_0 2 rfl rfl)
theorem dX5_thanks_5 : decode cX5_thanks 5 = .ok (.iload_n 1, 1) := dk_27 (dk_at dksX5_thanks_0 5 rfl rfl)
theorem dX5_thanks_6 : decode cX5_thanks 6 = .ok (.i2l, 1) := dk_133 (dk_at dksX5_thanks_0 6 rfl rfl)
theorem dX5_thanks_7 : decode cX5_thanks 7 = .ok (.lconst 0, 1) := dk_9 (dk_at dksX5_thanks_0 7 rfl rfl)
theorem dX5_thanks_8 : decode cX5_thanks 8 = .ok (.ldc2_w 377, 3) := dk_20 1 121 (dk_at dksX5_thanks_0 8 rfl rfl)
theorem dX5_thanks_11 : decode cX5_thanks 11 = .ok (.invokestatic 152, 3) := dk_184 0 152 (dk_at dksX5_thanks_0 11 rfl rfl)
theorem dX5_thanks_14 : decode cX5_thanks 14 = .ok (.ifCond .eq 53, 3) := dk_153 0 53 (dk_at dksX5_thanks_0 14 rfl rfl)
theorem dX5_thanks_17 : decode cX5_thanks 17 = .ok (.iload_n 2, 1) := dk_28 (dk_at dksX5_thanks_0 17 rfl rfl)
theorem dX5_thanks_18 : decode cX5_thanks 18 = .ok (.i2l, 1) := dk_133 (dk_at dksX5_thanks_0 18 rfl rfl)
theorem dX5_thanks_19 : decode cX5_thanks 19 = .ok (.lconst 0, 1) := dk_9 (dk_at dksX5_thanks_0 19 rfl rfl)
theorem dX5_thanks_20 : decode cX5_thanks 20 = .ok (.ldc2_w 286, 3) := dk_20 1 30 (dk_at dksX5_thanks_0 20 rfl rfl)
theorem dX5_thanks_23 : decode cX5_thanks 23 = .ok (.invokestatic 152, 3) := dk_184 0 152 (dk_at dksX5_thanks_1 0 rfl rfl)
theorem dX5_thanks_26 : decode cX5_thanks 26 = .ok (.ifCond .eq 41, 3) := dk_153 0 41 (dk_at dksX5_thanks_1 3 rfl rfl)
theorem dX5_thanks_29 : decode cX5_thanks 29 = .ok (.iload_n 3, 1) := dk_29 (dk_at dksX5_thanks_1 6 rfl rfl)
theorem dX5_thanks_30 : decode cX5_thanks 30 = .ok (.i2l, 1) := dk_133 (dk_at dksX5_thanks_1 7 rfl rfl)
theorem dX5_thanks_31 : decode cX5_thanks 31 = .ok (.lconst 0, 1) := dk_9 (dk_at dksX5_thanks_1 8 rfl rfl)
theorem dX5_thanks_32 : decode cX5_thanks 32 = .ok (.ldc2_w 286, 3) := dk_20 1 30 (dk_at dksX5_thanks_1 9 rfl rfl)
theorem dX5_thanks_35 : decode cX5_thanks 35 = .ok (.invokestatic 152, 3) := dk_184 0 152 (dk_at dksX5_thanks_1 12 rfl rfl)
theorem dX5_thanks_38 : decode cX5_thanks 38 = .ok (.ifCond .eq 29, 3) := dk_153 0 29 (dk_at dksX5_thanks_1 15 rfl rfl)
theorem dX5_thanks_41 : decode cX5_thanks 41 = .ok (.iload 4, 2) := dk_21 4 (dk_at dksX5_thanks_1 18 rfl rfl)
theorem dX5_thanks_43 : decode cX5_thanks 43 = .ok (.i2l, 1) := dk_133 (dk_at dksX5_thanks_1 20 rfl rfl)
theorem dX5_thanks_44 : decode cX5_thanks 44 = .ok (.lconst 0, 1) := dk_9 (dk_at dksX5_thanks_1 21 rfl rfl)
theorem dX5_thanks_45 : decode cX5_thanks 45 = .ok (.ldc2_w 286, 3) := dk_20 1 30 (dk_at dksX5_thanks_2 0 rfl rfl)
theorem dX5_thanks_48 : decode cX5_thanks 48 = .ok (.invokestatic 152, 3) := dk_184 0 152 (dk_at dksX5_thanks_2 3 rfl rfl)
theorem dX5_thanks_51 : decode cX5_thanks 51 = .ok (.ifCond .eq 16, 3) := dk_153 0 16 (dk_at dksX5_thanks_2 6 rfl rfl)
theorem dX5_thanks_54 : decode cX5_thanks 54 = .ok (.iload 5, 2) := dk_21 5 (dk_at dksX5_thanks_2 9 rfl rfl)
theorem dX5_thanks_56 : decode cX5_thanks 56 = .ok (.i2l, 1) := dk_133 (dk_at dksX5_thanks_2 11 rfl rfl)
theorem dX5_thanks_57 : decode cX5_thanks 57 = .ok (.lconst 0, 1) := dk_9 (dk_at dksX5_thanks_2 12 rfl rfl)
theorem dX5_thanks_58 : decode cX5_thanks 58 = .ok (.ldc2_w 281, 3) := dk_20 1 25 (dk_at dksX5_thanks_2 13 rfl rfl)
theorem dX5_thanks_61 : decode cX5_thanks 61 = .ok (.invokestatic 152, 3) := dk_184 0 152 (dk_at dksX5_thanks_2 16 rfl rfl)
theorem dX5_thanks_64 : decode cX5_thanks 64 = .ok (.ifCond .ne 10, 3) := dk_154 0 10 (dk_at dksX5_thanks_2 19 rfl rfl)
theorem dX5_thanks_67 : decode cX5_thanks 67 = .ok (.aload_n 0, 1) := dk_42 (dk_at dksX5_thanks_2 22 rfl rfl)
theorem dX5_thanks_68 : decode cX5_thanks 68 = .ok (.bipush (-3), 2) := dk_16 253 (dk_at dksX5_thanks_3 0 rfl rfl)
theorem dX5_thanks_70 : decode cX5_thanks 70 = .ok (.invokevirtual 89, 3) := dk_182 0 89 (dk_at dksX5_thanks_3 2 rfl rfl)
theorem dX5_thanks_73 : decode cX5_thanks 73 = .ok (.ireturn, 1) := dk_172 (dk_at dksX5_thanks_3 5 rfl rfl)
theorem dX5_thanks_74 : decode cX5_thanks 74 = .ok (.iload_n 1, 1) := dk_27 (dk_at dksX5_thanks_3 6 rfl rfl)
theorem dX5_thanks_75 : decode cX5_thanks 75 = .ok (.i2l, 1) := dk_133 (dk_at dksX5_thanks_3 7 rfl rfl)
theorem dX5_thanks_76 : decode cX5_thanks 76 = .ok (.lstore 6, 2) := dk_55 6 (dk_at dksX5_thanks_3 8 rfl rfl)
theorem dX5_thanks_78 : decode cX5_thanks 78 = .ok (.iconst 0, 1) := dk_3 (dk_at dksX5_thanks_3 10 rfl rfl)
theorem dX5_thanks_79 : decode cX5_thanks 79 = .ok (.istore 8, 2) := dk_54 8 (dk_at dksX5_thanks_3 11 rfl rfl)
theorem dX5_thanks_81 : decode cX5_thanks 81 = .ok (.iload 8, 2) := dk_21 8 (dk_at dksX5_thanks_3 13 rfl rfl)
theorem dX5_thanks_83 : decode cX5_thanks 83 = .ok (.iload 5, 2) := dk_21 5 (dk_at dksX5_thanks_3 15 rfl rfl)
theorem dX5_thanks_85 : decode cX5_thanks 85 = .ok (.if_icmp .ge 37, 3) := dk_162 0 37 (dk_at dksX5_thanks_3 17 rfl rfl)
theorem dX5_thanks_88 : decode cX5_thanks 88 = .ok (.lload 6, 2) := dk_22 6 (dk_at dksX5_thanks_3 20 rfl rfl)
theorem dX5_thanks_90 : decode cX5_thanks 90 = .ok (.iload_n 2, 1) := dk_28 (dk_at dksX5_thanks_3 22 rfl rfl)
theorem dX5_thanks_91 : decode cX5_thanks 91 = .ok (.i2l, 1) := dk_133 (dk_at dksX5_thanks_3 23 rfl rfl)
theorem dX5_thanks_92 : decode cX5_thanks 92 = .ok (.lmul, 1) := dk_105 (dk_at dksX5_thanks_4 0 rfl rfl)
theorem dX5_thanks_93 : decode cX5_thanks 93 = .ok (.iload_n 3, 1) := dk_29 (dk_at dksX5_thanks_4 1 rfl rfl)
theorem dX5_thanks_94 : decode cX5_thanks 94 = .ok (.i2l, 1) := dk_133 (dk_at dksX5_thanks_4 2 rfl rfl)
theorem dX5_thanks_95 : decode cX5_thanks 95 = .ok (.lmul, 1) := dk_105 (dk_at dksX5_thanks_4 3 rfl rfl)
theorem dX5_thanks_96 : decode cX5_thanks 96 = .ok (.ldc2_w 379, 3) := dk_20 1 123 (dk_at dksX5_thanks_4 4 rfl rfl)
theorem dX5_thanks_99 : decode cX5_thanks 99 = .ok (.lload 6, 2) := dk_22 6 (dk_at dksX5_thanks_4 7 rfl rfl)
theorem dX5_thanks_101 : decode cX5_thanks 101 = .ok (.iload_n 2, 1) := dk_28 (dk_at dksX5_thanks_4 9 rfl rfl)
theorem dX5_thanks_102 : decode cX5_thanks 102 = .ok (.i2l, 1) := dk_133 (dk_at dksX5_thanks_4 10 rfl rfl)
theorem dX5_thanks_103 : decode cX5_thanks 103 = .ok (.lmul, 1) := dk_105 (dk_at dksX5_thanks_4 11 rfl rfl)
theorem dX5_thanks_104 : decode cX5_thanks 104 = .ok (.lsub, 1) := dk_101 (dk_at dksX5_thanks_4 12 rfl rfl)
theorem dX5_thanks_105 : decode cX5_thanks 105 = .ok (.iload 4, 2) := dk_21 4 (dk_at dksX5_thanks_4 13 rfl rfl)
theorem dX5_thanks_107 : decode cX5_thanks 107 = .ok (.i2l, 1) := dk_133 (dk_at dksX5_thanks_4 15 rfl rfl)
theorem dX5_thanks_108 : decode cX5_thanks 108 = .ok (.lmul, 1) := dk_105 (dk_at dksX5_thanks_4 16 rfl rfl)
theorem dX5_thanks_109 : decode cX5_thanks 109 = .ok (.ladd, 1) := dk_97 (dk_at dksX5_thanks_4 17 rfl rfl)
theorem dX5_thanks_110 : decode cX5_thanks 110 = .ok (.ldc2_w 381, 3) := dk_20 1 125 (dk_at dksX5_thanks_4 18 rfl rfl)
theorem dX5_thanks_113 : decode cX5_thanks 113 = .ok (.ldiv, 1) := dk_109 (dk_at dksX5_thanks_4 21 rfl rfl)
theorem dX5_thanks_114 : decode cX5_thanks 114 = .ok (.lstore 6, 2) := dk_55 6 (dk_at dksX5_thanks_4 22 rfl rfl)
theorem dX5_thanks_116 : decode cX5_thanks 116 = .ok (.iinc 8 1, 3) := dk_132 8 1 (dk_at dksX5_thanks_5 0 rfl rfl)
theorem dX5_thanks_119 : decode cX5_thanks 119 = .ok (.goto (-38), 3) := dk_167 255 218 (dk_at dksX5_thanks_5 3 rfl rfl)
theorem dX5_thanks_122 : decode cX5_thanks 122 = .ok (.lload 6, 2) := dk_22 6 (dk_at dksX5_thanks_5 6 rfl rfl)
theorem dX5_thanks_124 : decode cX5_thanks 124 = .ok (.l2i, 1) := dk_136 (dk_at dksX5_thanks_5 8 rfl rfl)
theorem dX5_thanks_125 : decode cX5_thanks 125 = .ok (.ireturn, 1) := dk_172 (dk_at dksX5_thanks_5 9 rfl rfl)
abbrev cX5_filled : ByteArray := prog_21_method_106_code
def yX5_filled : MethodName := ⟨RX5, "filled", "(II)I"⟩
def dkwX5_filled_4 : List UInt8 := [28, 182, 1, 133, 172]
abbrev dktX5_filled_4 : List UInt8 := dkwX5_filled_4 ++ []
def dkwX5_filled_3 : List UInt8 := [153, 0, 10, 42, 16, 253, 182, 0, 89, 172, 42, 27, 182, 1, 130, 154, 0, 7, 2, 167, 0, 9, 42, 27]
abbrev dktX5_filled_3 : List UInt8 := dkwX5_filled_3 ++ dktX5_filled_4
def dkwX5_filled_2 : List UInt8 := [27, 46, 4, 100, 133, 184, 0, 152, 154, 0, 10, 42, 16, 249, 182, 0, 89, 172, 42, 27, 182, 1, 127]
abbrev dktX5_filled_2 : List UInt8 := dkwX5_filled_2 ++ dktX5_filled_3
def dkwX5_filled_1 : List UInt8 := [42, 180, 0, 73, 27, 46, 2, 160, 0, 10, 42, 16, 250, 182, 0, 89, 172, 28, 133, 9, 42, 180, 0, 76]
abbrev dktX5_filled_1 : List UInt8 := dkwX5_filled_1 ++ dktX5_filled_2
def dkwX5_filled_0 : List UInt8 := [42, 3, 181, 0, 1, 27, 133, 9, 20, 0, 213, 184, 0, 152, 154, 0, 10, 42, 16, 254, 182, 0, 89, 172]
abbrev dktX5_filled_0 : List UInt8 := dkwX5_filled_0 ++ dktX5_filled_1
theorem dksX5_filled_0 : cX5_filled.data.toList.drop 0 = dktX5_filled_0 := by decide +kernel
theorem dksX5_filled_1 : cX5_filled.data.toList.drop 24 = dktX5_filled_1 := dk_seg dksX5_filled_0 24 rfl rfl
theorem dksX5_filled_2 : cX5_filled.data.toList.drop 48 = dktX5_filled_2 := dk_seg dksX5_filled_1 24 rfl rfl
theorem dksX5_filled_3 : cX5_filled.data.toList.drop 71 = dktX5_filled_3 := dk_seg dksX5_filled_2 23 rfl rfl
theorem dksX5_filled_4 : cX5_filled.data.toList.drop 95 = dktX5_filled_4 := dk_seg dksX5_filled_3 24 rfl rfl
theorem dX5_filled_0 : decode cX5_filled 0 = .ok (.aload_n 0, 1) := dk_42 (dk_at dksX5_filled_0 0 rfl rfl)
theorem dX5_filled_1 : decode cX5_filled 1 = .ok (.iconst 0, 1) := dk_3 (dk_at dksX5_filled_0 1 rfl rfl)
theorem dX5_filled_2 : decode cX5_filled 2 = .ok (.putfield 1, 3) := dk_181 0 1 (dk_at dksX5_filled_0 2 rfl rfl)
theorem dX5_filled_5 : decode cX5_filled 5 = .ok (.iload_n 1, 1) := dk_27 (dk_at dksX5_filled_0 5 rfl rfl)
theorem dX5_filled_6 : decode cX5_filled 6 = .ok (.i2l, 1) := dk_133 (dk_at dksX5_filled_0 6 rfl rfl)
theorem dX5_filled_7 : decode cX5_filled 7 = .ok (.lconst 0, 1) := dk_9 (dk_at dksX5_filled_0 7 rfl rfl)
theorem dX5_filled_8 : decode cX5_filled 8 = .ok (.ldc2_w 213, 3) := dk_20 0 213 (dk_at dksX5_filled_0 8 rfl rfl)
theorem dX5_filled_11 : decode cX5_filled 11 = .ok (.invokestatic 152, 3) := dk_184 0 152 (dk_at dksX5_filled_0 11 rfl rfl)
theorem dX5_filled_14 : decode cX5_filled 14 = .ok (.ifCond .ne 10, 3) := dk_154 0 10 (dk_at dksX5_filled_0 14 rfl rfl)
theorem dX5_filled_17 : decode cX5_filled 17 = .ok (.aload_n 0, 1) := dk_42 (dk_at dksX5_filled_0 17 rfl rfl)
theorem dX5_filled_18 : decode cX5_filled 18 = .ok (.bipush (-2), 2) := dk_16 254 (dk_at dksX5_filled_0 18 rfl rfl)
theorem dX5_filled_20 : decode cX5_filled 20 = .ok (.invokevirtual 89, 3) := dk_182 0 89 (dk_at dksX5_filled_0 20 rfl rfl)
theorem dX5_filled_23 : decode cX5_filled 23 = .ok (.ireturn, 1) := dk_172 (dk_at dksX5_filled_0 23 rfl rfl)
theorem dX5_filled_24 : decode cX5_filled 24 = .ok (.aload_n 0, 1) := dk_42 (dk_at dksX5_filled_1 0 rfl rfl)
theorem dX5_filled_25 : decode cX5_filled 25 = .ok (.getfield 73, 3) := dk_180 0 73 (dk_at dksX5_filled_1 1 rfl rfl)
theorem dX5_filled_28 : decode cX5_filled 28 = .ok (.iload_n 1, 1) := dk_27 (dk_at dksX5_filled_1 4 rfl rfl)
theorem dX5_filled_29 : decode cX5_filled 29 = .ok (.iaload, 1) := dk_46 (dk_at dksX5_filled_1 5 rfl rfl)
theorem dX5_filled_30 : decode cX5_filled 30 = .ok (.iconst (-1), 1) := dk_2 (dk_at dksX5_filled_1 6 rfl rfl)
theorem dX5_filled_31 : decode cX5_filled 31 = .ok (.if_icmp .ne 10, 3) := dk_160 0 10 (dk_at dksX5_filled_1 7 rfl rfl)
theorem dX5_filled_34 : decode cX5_filled 34 = .ok (.aload_n 0, 1) := dk_42 (dk_at dksX5_filled_1 10 rfl rfl)
theorem dX5_filled_35 : decode cX5_filled 35 = .ok (.bipush (-6), 2) := dk_16 250 (dk_at dksX5_filled_1 11 rfl rfl)
theorem dX5_filled_37 : decode cX5_filled 37 = .ok (.invokevirtual 89, 3) := dk_182 0 89 (dk_at dksX5_filled_1 13 rfl rfl)
theorem dX5_filled_40 : decode cX5_filled 40 = .ok (.ireturn, 1) := dk_172 (dk_at dksX5_filled_1 16 rfl rfl)
theorem dX5_filled_41 : decode cX5_filled 41 = .ok (.iload_n 2, 1) := dk_28 (dk_at dksX5_filled_1 17 rfl rfl)
theorem dX5_filled_42 : decode cX5_filled 42 = .ok (.i2l, 1) := dk_133 (dk_at dksX5_filled_1 18 rfl rfl)
theorem dX5_filled_43 : decode cX5_filled 43 = .ok (.lconst 0, 1) := dk_9 (dk_at dksX5_filled_1 19 rfl rfl)
theorem dX5_filled_44 : decode cX5_filled 44 = .ok (.aload_n 0, 1) := dk_42 (dk_at dksX5_filled_1 20 rfl rfl)
theorem dX5_filled_45 : decode cX5_filled 45 = .ok (.getfield 76, 3) := dk_180 0 76 (dk_at dksX5_filled_1 21 rfl rfl)
theorem dX5_filled_48 : decode cX5_filled 48 = .ok (.iload_n 1, 1) := dk_27 (dk_at dksX5_filled_2 0 rfl rfl)
theorem dX5_filled_49 : decode cX5_filled 49 = .ok (.iaload, 1) := dk_46 (dk_at dksX5_filled_2 1 rfl rfl)
theorem dX5_filled_50 : decode cX5_filled 50 = .ok (.iconst 1, 1) := dk_4 (dk_at dksX5_filled_2 2 rfl rfl)
theorem dX5_filled_51 : decode cX5_filled 51 = .ok (.isub, 1) := dk_100 (dk_at dksX5_filled_2 3 rfl rfl)
theorem dX5_filled_52 : decode cX5_filled 52 = .ok (.i2l, 1) := dk_133 (dk_at dksX5_filled_2 4 rfl rfl)
theorem dX5_filled_53 : decode cX5_filled 53 = .ok (.invokestatic 152, 3) := dk_184 0 152 (dk_at dksX5_filled_2 5 rfl rfl)
theorem dX5_filled_56 : decode cX5_filled 56 = .ok (.ifCond .ne 10, 3) := dk_154 0 10 (dk_at dksX5_filled_2 8 rfl rfl)
theorem dX5_filled_59 : decode cX5_filled 59 = .ok (.aload_n 0, 1) := dk_42 (dk_at dksX5_filled_2 11 rfl rfl)
theorem dX5_filled_60 : decode cX5_filled 60 = .ok (.bipush (-7), 2) := dk_16 249 (dk_at dksX5_filled_2 12 rfl rfl)
theorem dX5_filled_62 : decode cX5_filled 62 = .ok (.invokevirtual 89, 3) := dk_182 0 89 (dk_at dksX5_filled_2 14 rfl rfl)
theorem dX5_filled_65 : decode cX5_filled 65 = .ok (.ireturn, 1) := dk_172 (dk_at dksX5_filled_2 17 rfl rfl)
theorem dX5_filled_66 : decode cX5_filled 66 = .ok (.aload_n 0, 1) := dk_42 (dk_at dksX5_filled_2 18 rfl rfl)
theorem dX5_filled_67 : decode cX5_filled 67 = .ok (.iload_n 1, 1) := dk_27 (dk_at dksX5_filled_2 19 rfl rfl)
theorem dX5_filled_68 : decode cX5_filled 68 = .ok (.invokevirtual 383, 3) := dk_182 1 127 (dk_at dksX5_filled_2 20 rfl rfl)
theorem dX5_filled_71 : decode cX5_filled 71 = .ok (.ifCond .eq 10, 3) := dk_153 0 10 (dk_at dksX5_filled_3 0 rfl rfl)
theorem dX5_filled_74 : decode cX5_filled 74 = .ok (.aload_n 0, 1) := dk_42 (dk_at dksX5_filled_3 3 rfl rfl)
theorem dX5_filled_75 : decode cX5_filled 75 = .ok (.bipush (-3), 2) := dk_16 253 (dk_at dksX5_filled_3 4 rfl rfl)
theorem dX5_filled_77 : decode cX5_filled 77 = .ok (.invokevirtual 89, 3) := dk_182 0 89 (dk_at dksX5_filled_3 6 rfl rfl)
theorem dX5_filled_80 : decode cX5_filled 80 = .ok (.ireturn, 1) := dk_172 (dk_at dksX5_filled_3 9 rfl rfl)
theorem dX5_filled_81 : decode cX5_filled 81 = .ok (.aload_n 0, 1) := dk_42 (dk_at dksX5_filled_3 10 rfl rfl)
theorem dX5_filled_82 : decode cX5_filled 82 = .ok (.iload_n 1, 1) := dk_27 (dk_at dksX5_filled_3 11 rfl rfl)
theorem dX5_filled_83 : decode cX5_filled 83 = .ok (.invokevirtual 386, 3) := dk_182 1 130 (dk_at dksX5_filled_3 12 rfl rfl)
theorem dX5_filled_86 : decode cX5_filled 86 = .ok (.ifCond .ne 7, 3) := dk_154 0 7 (dk_at dksX5_filled_3 15 rfl rfl)
theorem dX5_filled_89 : decode cX5_filled 89 = .ok (.iconst (-1), 1) := dk_2 (dk_at dksX5_filled_3 18 rfl rfl)
theorem dX5_filled_90 : decode cX5_filled 90 = .ok (.goto 9, 3) := dk_167 0 9 (dk_at dksX5_filled_3 19 rfl rfl)
theorem dX5_filled_93 : decode cX5_filled 93 = .ok (.aload_n 0, 1) := dk_42 (dk_at dksX5_filled_3 22 rfl rfl)
theorem dX5_filled_94 : decode cX5_filled 94 = .ok (.iload_n 1, 1) := dk_27 (dk_at dksX5_filled_3 23 rfl rfl)
theorem dX5_filled_95 : decode cX5_filled 95 = .ok (.iload_n 2, 1) := dk_28 (dk_at dksX5_filled_4 0 rfl rfl)
theorem dX5_filled_96 : decode cX5_filled 96 = .ok (.invokevirtual 389, 3) := dk_182 1 133 (dk_at dksX5_filled_4 1 rfl rfl)
theorem dX5_filled_99 : decode cX5_filled 99 = .ok (.ireturn, 1) := dk_172 (dk_at dksX5_filled_4 4 rfl rfl)
abbrev cX5_isTooMuch : ByteArray := prog_21_method_104_code
def yX5_isTooMuch : MethodName := ⟨RX5, "isTooMuch", "(I)Z"⟩
def dkwX5_isTooMuch_1 : List UInt8 := [20, 1, 121, 148, 158, 0, 5, 4, 172, 132, 2, 1, 167, 255, 223, 3, 172]
abbrev dktX5_isTooMuch_1 : List UInt8 := dkwX5_isTooMuch_1 ++ []
def dkwX5_isTooMuch_0 : List UInt8 := [3, 61, 28, 42, 180, 0, 76, 27, 46, 162, 0, 29, 42, 180, 0, 79, 16, 40, 27, 104, 28, 96, 47]
abbrev dktX5_isTooMuch_0 : List UInt8 := dkwX5_isTooMuch_0 ++ dktX5_isTooMuch_1
theorem dksX5_isTooMuch_0 : cX5_isTooMuch.data.toList.drop 0 = dktX5_isTooMuch_0 := by decide +kernel
theorem dksX5_isTooMuch_1 : cX5_isTooMuch.data.toList.drop 23 = dktX5_isTooMuch_1 := dk_seg dksX5_isTooMuch_0 23 rfl rfl
theorem dX5_isTooMuch_0 : decode cX5_isTooMuch 0 = .ok (.iconst 0, 1) := dk_3 (dk_at dksX5_isTooMuch_0 0 rfl rfl)
theorem dX5_isTooMuch_1 : decode cX5_isTooMuch 1 = .ok (.istore_n 2, 1) := dk_61 (dk_at dksX5_isTooMuch_0 1 rfl rfl)
theorem dX5_isTooMuch_2 : decode cX5_isTooMuch 2 = .ok (.iload_n 2, 1) := dk_28 (dk_at dksX5_isTooMuch_0 2 rfl rfl)
theorem dX5_isTooMuch_3 : decode cX5_isTooMuch 3 = .ok (.aload_n 0, 1) := dk_42 (dk_at dksX5_isTooMuch_0 3 rfl rfl)
theorem dX5_isTooMuch_4 : decode cX5_isTooMuch 4 = .ok (.getfield 76, 3) := dk_180 0 76 (dk_at dksX5_isTooMuch_0 4 rfl rfl)
theorem dX5_isTooMuch_7 : decode cX5_isTooMuch 7 = .ok (.iload_n 1, 1) := dk_27 (dk_at dksX5_isTooMuch_0 7 rfl rfl)
theorem dX5_isTooMuch_8 : decode cX5_isTooMuch 8 = .ok (.iaload, 1) := dk_46 (dk_at dksX5_isTooMuch_0 8 rfl rfl)
theorem dX5_isTooMuch_9 : decode cX5_isTooMuch 9 = .ok (.if_icmp .ge 29, 3) := dk_162 0 29 (dk_at dksX5_isTooMuch_0 9 rfl rfl)
theorem dX5_isTooMuch_12 : decode cX5_isTooMuch 12 = .ok (.aload_n 0, 1) := dk_42 (dk_at dksX5_isTooMuch_0 12 rfl rfl)
theorem dX5_isTooMuch_13 : decode cX5_isTooMuch 13 = .ok (.getfield 79, 3) := dk_180 0 79 (dk_at dksX5_isTooMuch_0 13 rfl rfl)
theorem dX5_isTooMuch_16 : decode cX5_isTooMuch 16 = .ok (.bipush 40, 2) := dk_16 40 (dk_at dksX5_isTooMuch_0 16 rfl rfl)
theorem dX5_isTooMuch_18 : decode cX5_isTooMuch 18 = .ok (.iload_n 1, 1) := dk_27 (dk_at dksX5_isTooMuch_0 18 rfl rfl)
theorem dX5_isTooMuch_19 : decode cX5_isTooMuch 19 = .ok (.imul, 1) := dk_104 (dk_at dksX5_isTooMuch_0 19 rfl rfl)
theorem dX5_isTooMuch_20 : decode cX5_isTooMuch 20 = .ok (.iload_n 2, 1) := dk_28 (dk_at dksX5_isTooMuch_0 20 rfl rfl)
theorem dX5_isTooMuch_21 : decode cX5_isTooMuch 21 = .ok (.iadd, 1) := dk_96 (dk_at dksX5_isTooMuch_0 21 rfl rfl)
theorem dX5_isTooMuch_22 : decode cX5_isTooMuch 22 = .ok (.laload, 1) := dk_47 (dk_at dksX5_isTooMuch_0 22 rfl rfl)
theorem dX5_isTooMuch_23 : decode cX5_isTooMuch 23 = .ok (.ldc2_w 377, 3) := dk_20 1 121 (dk_at dksX5_isTooMuch_1 0 rfl rfl)
theorem dX5_isTooMuch_26 : decode cX5_isTooMuch 26 = .ok (.lcmp, 1) := dk_148 (dk_at dksX5_isTooMuch_1 3 rfl rfl)
theorem dX5_isTooMuch_27 : decode cX5_isTooMuch 27 = .ok (.ifCond .le 5, 3) := dk_158 0 5 (dk_at dksX5_isTooMuch_1 4 rfl rfl)
theorem dX5_isTooMuch_30 : decode cX5_isTooMuch 30 = .ok (.iconst 1, 1) := dk_4 (dk_at dksX5_isTooMuch_1 7 rfl rfl)
theorem dX5_isTooMuch_31 : decode cX5_isTooMuch 31 = .ok (.ireturn, 1) := dk_172 (dk_at dksX5_isTooMuch_1 8 rfl rfl)
theorem dX5_isTooMuch_32 : decode cX5_isTooMuch 32 = .ok (.iinc 2 1, 3) := dk_132 2 1 (dk_at dksX5_isTooMuch_1 9 rfl rfl)
theorem dX5_isTooMuch_35 : decode cX5_isTooMuch 35 = .ok (.goto (-33), 3) := dk_167 255 223 (dk_at dksX5_isTooMuch_1 12 rfl rfl)
theorem dX5_isTooMuch_38 : decode cX5_isTooMuch 38 = .ok (.iconst 0, 1) := dk_3 (dk_at dksX5_isTooMuch_1 15 rfl rfl)
theorem dX5_isTooMuch_39 : decode cX5_isTooMuch 39 = .ok (.ireturn, 1) := dk_172 (dk_at dksX5_isTooMuch_1 16 rfl rfl)
abbrev cX5_hereIn : ByteArray := prog_21_method_103_code
def yX5_hereIn : MethodName := ⟨RX5, "hereIn", "(I)I"⟩
def dkwX5_hereIn_1 : List UInt8 := [96, 47, 9, 148, 155, 0, 7, 4, 167, 0, 4, 3, 96, 61, 132, 3, 1, 167, 255, 219, 28, 172]
abbrev dktX5_hereIn_1 : List UInt8 := dkwX5_hereIn_1 ++ []
def dkwX5_hereIn_0 : List UInt8 := [3, 61, 3, 62, 29, 42, 180, 0, 76, 27, 46, 162, 0, 33, 28, 42, 180, 0, 79, 16, 40, 27, 104, 29]
abbrev dktX5_hereIn_0 : List UInt8 := dkwX5_hereIn_0 ++ dktX5_hereIn_1
theorem dksX5_hereIn_0 : cX5_hereIn.data.toList.drop 0 = dktX5_hereIn_0 := by decide +kernel
theorem dksX5_hereIn_1 : cX5_hereIn.data.toList.drop 24 = dktX5_hereIn_1 := dk_seg dksX5_hereIn_0 24 rfl rfl
theorem dX5_hereIn_0 : decode cX5_hereIn 0 = .ok (.iconst 0, 1) := dk_3 (dk_at dksX5_hereIn_0 0 rfl rfl)
theorem dX5_hereIn_1 : decode cX5_hereIn 1 = .ok (.istore_n 2, 1) := dk_61 (dk_at dksX5_hereIn_0 1 rfl rfl)
theorem dX5_hereIn_2 : decode cX5_hereIn 2 = .ok (.iconst 0, 1) := dk_3 (dk_at dksX5_hereIn_0 2 rfl rfl)
theorem dX5_hereIn_3 : decode cX5_hereIn 3 = .ok (.istore_n 3, 1) := dk_62 (dk_at dksX5_hereIn_0 3 rfl rfl)
theorem dX5_hereIn_4 : decode cX5_hereIn 4 = .ok (.iload_n 3, 1) := dk_29 (dk_at dksX5_hereIn_0 4 rfl rfl)
theorem dX5_hereIn_5 : decode cX5_hereIn 5 = .ok (.aload_n 0, 1) := dk_42 (dk_at dksX5_hereIn_0 5 rfl rfl)
theorem dX5_hereIn_6 : decode cX5_hereIn 6 = .ok (.getfield 76, 3) := dk_180 0 76 (dk_at dksX5_hereIn_0 6 rfl rfl)
theorem dX5_hereIn_9 : decode cX5_hereIn 9 = .ok (.iload_n 1, 1) := dk_27 (dk_at dksX5_hereIn_0 9 rfl rfl)
theorem dX5_hereIn_10 : decode cX5_hereIn 10 = .ok (.iaload, 1) := dk_46 (dk_at dksX5_hereIn_0 10 rfl rfl)
theorem dX5_hereIn_11 : decode cX5_hereIn 11 = .ok (.if_icmp .ge 33, 3) := dk_162 0 33 (dk_at dksX5_hereIn_0 11 rfl rfl)
theorem dX5_hereIn_14 : decode cX5_hereIn 14 = .ok (.iload_n 2, 1) := dk_28 (dk_at dksX5_hereIn_0 14 rfl rfl)
theorem dX5_hereIn_15 : decode cX5_hereIn 15 = .ok (.aload_n 0, 1) := dk_42 (dk_at dksX5_hereIn_0 15 rfl rfl)
theorem dX5_hereIn_16 : decode cX5_hereIn 16 = .ok (.getfield 79, 3) := dk_180 0 79 (dk_at dksX5_hereIn_0 16 rfl rfl)
theorem dX5_hereIn_19 : decode cX5_hereIn 19 = .ok (.bipush 40, 2) := dk_16 40 (dk_at dksX5_hereIn_0 19 rfl rfl)
theorem dX5_hereIn_21 : decode cX5_hereIn 21 = .ok (.iload_n 1, 1) := dk_27 (dk_at dksX5_hereIn_0 21 rfl rfl)
theorem dX5_hereIn_22 : decode cX5_hereIn 22 = .ok (.imul, 1) := dk_104 (dk_at dksX5_hereIn_0 22 rfl rfl)
theorem dX5_hereIn_23 : decode cX5_hereIn 23 = .ok (.iload_n 3, 1) := dk_29 (dk_at dksX5_hereIn_0 23 rfl rfl)
theorem dX5_hereIn_24 : decode cX5_hereIn 24 = .ok (.iadd, 1) := dk_96 (dk_at dksX5_hereIn_1 0 rfl rfl)
theorem dX5_hereIn_25 : decode cX5_hereIn 25 = .ok (.laload, 1) := dk_47 (dk_at dksX5_hereIn_1 1 rfl rfl)
theorem dX5_hereIn_26 : decode cX5_hereIn 26 = .ok (.lconst 0, 1) := dk_9 (dk_at dksX5_hereIn_1 2 rfl rfl)
theorem dX5_hereIn_27 : decode cX5_hereIn 27 = .ok (.lcmp, 1) := dk_148 (dk_at dksX5_hereIn_1 3 rfl rfl)
theorem dX5_hereIn_28 : decode cX5_hereIn 28 = .ok (.ifCond .lt 7, 3) := dk_155 0 7 (dk_at dksX5_hereIn_1 4 rfl rfl)
theorem dX5_hereIn_31 : decode cX5_hereIn 31 = .ok (.iconst 1, 1) := dk_4 (dk_at dksX5_hereIn_1 7 rfl rfl)
theorem dX5_hereIn_32 : decode cX5_hereIn 32 = .ok (.goto 4, 3) := dk_167 0 4 (dk_at dksX5_hereIn_1 8 rfl rfl)
theorem dX5_hereIn_35 : decode cX5_hereIn 35 = .ok (.iconst 0, 1) := dk_3 (dk_at dksX5_hereIn_1 11 rfl rfl)
theorem dX5_hereIn_36 : decode cX5_hereIn 36 = .ok (.iadd, 1) := dk_96 (dk_at dksX5_hereIn_1 12 rfl rfl)
theorem dX5_hereIn_37 : decode cX5_hereIn 37 = .ok (.istore_n 2, 1) := dk_61 (dk_at dksX5_hereIn_1 13 rfl rfl)
theorem dX5_hereIn_38 : decode cX5_hereIn 38 = .ok (.iinc 3 1, 3) := dk_132 3 1 (dk_at dksX5_hereIn_1 14 rfl rfl)
theorem dX5_hereIn_41 : decode cX5_hereIn 41 = .ok (.goto (-37), 3) := dk_167 255 219 (dk_at dksX5_hereIn_1 17 rfl rfl)
theorem dX5_hereIn_44 : decode cX5_hereIn 44 = .ok (.iload_n 2, 1) := dk_28 (dk_at dksX5_hereIn_1 20 rfl rfl)
theorem dX5_hereIn_45 : decode cX5_hereIn 45 = .ok (.ireturn, 1) := dk_172 (dk_at dksX5_hereIn_1 21 rfl rfl)
abbrev cX5_filledAt : ByteArray := prog_21_method_105_code
def yX5_filledAt : MethodName := ⟨RX5, "filledAt", "(II)I"⟩
def dkwX5_filledAt_5 : List UInt8 := [96, 47, 167, 0, 5, 22, 5, 55, 7, 22, 5, 22, 7, 97, 20, 1, 107, 109, 136, 172]
abbrev dktX5_filledAt_5 : List UInt8 := dkwX5_filledAt_5 ++ []
def dkwX5_filledAt_4 : List UInt8 := [47, 55, 5, 21, 4, 42, 180, 0, 76, 27, 46, 162, 0, 18, 42, 180, 0, 79, 16, 40, 27, 104, 21, 4]
abbrev dktX5_filledAt_4 : List UInt8 := dkwX5_filledAt_4 ++ dktX5_filledAt_5
def dkwX5_filledAt_3 : List UInt8 := [180, 0, 79, 16, 40, 27, 104, 29, 96, 47, 167, 0, 15, 42, 180, 0, 79, 16, 40, 27, 104, 21, 4, 96]
abbrev dktX5_filledAt_3 : List UInt8 := dkwX5_filledAt_3 ++ dktX5_filledAt_4
def dkwX5_filledAt_2 : List UInt8 := [16, 40, 27, 104, 21, 4, 96, 47, 9, 148, 156, 0, 9, 132, 4, 1, 167, 255, 225, 29, 155, 0, 17, 42]
abbrev dktX5_filledAt_2 : List UInt8 := dkwX5_filledAt_2 ++ dktX5_filledAt_3
def dkwX5_filledAt_1 : List UInt8 := [156, 0, 9, 132, 3, 255, 167, 255, 233, 21, 4, 42, 180, 0, 76, 27, 46, 162, 0, 26, 42, 180, 0, 79]
abbrev dktX5_filledAt_1 : List UInt8 := dkwX5_filledAt_1 ++ dktX5_filledAt_2
def dkwX5_filledAt_0 : List UInt8 := [28, 62, 28, 54, 4, 29, 155, 0, 25, 42, 180, 0, 79, 16, 40, 27, 104, 29, 96, 47, 9, 148]
abbrev dktX5_filledAt_0 : List UInt8 := dkwX5_filledAt_0 ++ dktX5_filledAt_1
theorem dksX5_filledAt_0 : cX5_filledAt.data.toList.drop 0 = dktX5_filledAt_0 := by decide +kernel
theorem dksX5_filledAt_1 : cX5_filledAt.data.toList.drop 22 = dktX5_filledAt_1 := dk_seg dksX5_filledAt_0 22 rfl rfl
theorem dksX5_filledAt_2 : cX5_filledAt.data.toList.drop 46 = dktX5_filledAt_2 := dk_seg dksX5_filledAt_1 24 rfl rfl
theorem dksX5_filledAt_3 : cX5_filledAt.data.toList.drop 70 = dktX5_filledAt_3 := dk_seg dksX5_filledAt_2 24 rfl rfl
theorem dksX5_filledAt_4 : cX5_filledAt.data.toList.drop 94 = dktX5_filledAt_4 := dk_seg dksX5_filledAt_3 24 rfl rfl
theorem dksX5_filledAt_5 : cX5_filledAt.data.toList.drop 118 = dktX5_filledAt_5 := dk_seg dksX5_filledAt_4 24 rfl rfl
theorem dX5_filledAt_0 : decode cX5_filledAt 0 = .ok (.iload_n 2, 1) := dk_28 (dk_at dksX5_filledAt_0 0 rfl rfl)
theorem dX5_filledAt_1 : decode cX5_filledAt 1 = .ok (.istore_n 3, 1) := dk_62 (dk_at dksX5_filledAt_0 1 rfl rfl)
theorem dX5_filledAt_2 : decode cX5_filledAt 2 = .ok (.iload_n 2, 1) := dk_28 (dk_at dksX5_filledAt_0 2 rfl rfl)
theorem dX5_filledAt_3 : decode cX5_filledAt 3 = .ok (.istore 4, 2) := dk_54 4 (dk_at dksX5_filledAt_0 3 rfl rfl)
theorem dX5_filledAt_5 : decode cX5_filledAt 5 = .ok (.iload_n 3, 1) := dk_29 (dk_at dksX5_filledAt_0 5 rfl rfl)
theorem dX5_filledAt_6 : decode cX5_filledAt 6 = .ok (.ifCond .lt 25, 3) := dk_155 0 25 (dk_at dksX5_filledAt_0 6 rfl rfl)
theorem dX5_filledAt_9 : decode cX5_filledAt 9 = .ok (.aload_n 0, 1) := dk_42 (dk_at dksX5_filledAt_0 9 rfl rfl)
theorem dX5_filledAt_10 : decode cX5_filledAt 10 = .ok (.getfield 79, 3) := dk_180 0 79 (dk_at dksX5_filledAt_0 10 rfl rfl)
theorem dX5_filledAt_13 : decode cX5_filledAt 13 = .ok (.bipush 40, 2) := dk_16 40 (dk_at dksX5_filledAt_0 13 rfl rfl)
theorem dX5_filledAt_15 : decode cX5_filledAt 15 = .ok (.iload_n 1, 1) := dk_27 (dk_at dksX5_filledAt_0 15 rfl rfl)
theorem dX5_filledAt_16 : decode cX5_filledAt 16 = .ok (.imul, 1) := dk_104 (dk_at dksX5_filledAt_0 16 rfl rfl)
theorem dX5_filledAt_17 : decode cX5_filledAt 17 = .ok (.iload_n 3, 1) := dk_29 (dk_at dksX5_filledAt_0 17 rfl rfl)
theorem dX5_filledAt_18 : decode cX5_filledAt 18 = .ok (.iadd, 1) := dk_96 (dk_at dksX5_filledAt_0 18 rfl rfl)
theorem dX5_filledAt_19 : decode cX5_filledAt 19 = .ok (.laload, 1) := dk_47 (dk_at dksX5_filledAt_0 19 rfl rfl)
theorem dX5_filledAt_20 : decode cX5_filledAt 20 = .ok (.lconst 0, 1) := dk_9 (dk_at dksX5_filledAt_0 20 rfl rfl)
theorem dX5_filledAt_21 : decode cX5_filledAt 21 = .ok (.lcmp, 1) := dk_148 (dk_at dksX5_filledAt_0 21 rfl rfl)
theorem dX5_filledAt_22 : decode cX5_filledAt 22 = .ok (.ifCond .ge 9, 3) := dk_156 0 9 (dk_at dksX5_filledAt_1 0 rfl rfl)
theorem dX5_filledAt_25 : decode cX5_filledAt 25 = .ok (.iinc 3 (-1), 3) := dk_132 3 255 (dk_at dksX5_filledAt_1 3 rfl rfl)
theorem dX5_filledAt_28 : decode cX5_filledAt 28 = .ok (.goto (-23), 3) := dk_167 255 233 (dk_at dksX5_filledAt_1 6 rfl rfl)
theorem dX5_filledAt_31 : decode cX5_filledAt 31 = .ok (.iload 4, 2) := dk_21 4 (dk_at dksX5_filledAt_1 9 rfl rfl)
theorem dX5_filledAt_33 : decode cX5_filledAt 33 = .ok (.aload_n 0, 1) := dk_42 (dk_at dksX5_filledAt_1 11 rfl rfl)
theorem dX5_filledAt_34 : decode cX5_filledAt 34 = .ok (.getfield 76, 3) := dk_180 0 76 (dk_at dksX5_filledAt_1 12 rfl rfl)
theorem dX5_filledAt_37 : decode cX5_filledAt 37 = .ok (.iload_n 1, 1) := dk_27 (dk_at dksX5_filledAt_1 15 rfl rfl)
theorem dX5_filledAt_38 : decode cX5_filledAt 38 = .ok (.iaload, 1) := dk_46 (dk_at dksX5_filledAt_1 16 rfl rfl)
theorem dX5_filledAt_39 : decode cX5_filledAt 39 = .ok (.if_icmp .ge 26, 3) := dk_162 0 26 (dk_at dksX5_filledAt_1 17 rfl rfl)
theorem dX5_filledAt_42 : decode cX5_filledAt 42 = .ok (.aload_n 0, 1) := dk_42 (dk_at dksX5_filledAt_1 20 rfl rfl)
theorem dX5_filledAt_43 : decode cX5_filledAt 43 = .ok (.getfield 79, 3) := dk_180 0 79 (dk_at dksX5_filledAt_1 21 rfl rfl)
theorem dX5_filledAt_46 : decode cX5_filledAt 46 = .ok (.bipush 40, 2) := dk_16 40 (dk_at dksX5_filledAt_2 0 rfl rfl)
theorem dX5_filledAt_48 : decode cX5_filledAt 48 = .ok (.iload_n 1, 1) := dk_27 (dk_at dksX5_filledAt_2 2 rfl rfl)
theorem dX5_filledAt_49 : decode cX5_filledAt 49 = .ok (.imul, 1) := dk_104 (dk_at dksX5_filledAt_2 3 rfl rfl)
theorem dX5_filledAt_50 : decode cX5_filledAt 50 = .ok (.iload 4, 2) := dk_21 4 (dk_at dksX5_filledAt_2 4 rfl rfl)
theorem dX5_filledAt_52 : decode cX5_filledAt 52 = .ok (.iadd, 1) := dk_96 (dk_at dksX5_filledAt_2 6 rfl rfl)
theorem dX5_filledAt_53 : decode cX5_filledAt 53 = .ok (.laload, 1) := dk_47 (dk_at dksX5_filledAt_2 7 rfl rfl)
theorem dX5_filledAt_54 : decode cX5_filledAt 54 = .ok (.lconst 0, 1) := dk_9 (dk_at dksX5_filledAt_2 8 rfl rfl)
theorem dX5_filledAt_55 : decode cX5_filledAt 55 = .ok (.lcmp, 1) := dk_148 (dk_at dksX5_filledAt_2 9 rfl rfl)
theorem dX5_filledAt_56 : decode cX5_filledAt 56 = .ok (.ifCond .ge 9, 3) := dk_156 0 9 (dk_at dksX5_filledAt_2 10 rfl rfl)
theorem dX5_filledAt_59 : decode cX5_filledAt 59 = .ok (.iinc 4 1, 3) := dk_132 4 1 (dk_at dksX5_filledAt_2 13 rfl rfl)
theorem dX5_filledAt_62 : decode cX5_filledAt 62 = .ok (.goto (-31), 3) := dk_167 255 225 (dk_at dksX5_filledAt_2 16 rfl rfl)
theorem dX5_filledAt_65 : decode cX5_filledAt 65 = .ok (.iload_n 3, 1) := dk_29 (dk_at dksX5_filledAt_2 19 rfl rfl)
theorem dX5_filledAt_66 : decode cX5_filledAt 66 = .ok (.ifCond .lt 17, 3) := dk_155 0 17 (dk_at dksX5_filledAt_2 20 rfl rfl)
theorem dX5_filledAt_69 : decode cX5_filledAt 69 = .ok (.aload_n 0, 1) := dk_42 (dk_at dksX5_filledAt_2 23 rfl rfl)
theorem dX5_filledAt_70 : decode cX5_filledAt 70 = .ok (.getfield 79, 3) := dk_180 0 79 (dk_at dksX5_filledAt_3 0 rfl rfl)
theorem dX5_filledAt_73 : decode cX5_filledAt 73 = .ok (.bipush 40, 2) := dk_16 40 (dk_at dksX5_filledAt_3 3 rfl rfl)
theorem dX5_filledAt_75 : decode cX5_filledAt 75 = .ok (.iload_n 1, 1) := dk_27 (dk_at dksX5_filledAt_3 5 rfl rfl)
theorem dX5_filledAt_76 : decode cX5_filledAt 76 = .ok (.imul, 1) := dk_104 (dk_at dksX5_filledAt_3 6 rfl rfl)
theorem dX5_filledAt_77 : decode cX5_filledAt 77 = .ok (.iload_n 3, 1) := dk_29 (dk_at dksX5_filledAt_3 7 rfl rfl)
theorem dX5_filledAt_78 : decode cX5_filledAt 78 = .ok (.iadd, 1) := dk_96 (dk_at dksX5_filledAt_3 8 rfl rfl)
theorem dX5_filledAt_79 : decode cX5_filledAt 79 = .ok (.laload, 1) := dk_47 (dk_at dksX5_filledAt_3 9 rfl rfl)
theorem dX5_filledAt_80 : decode cX5_filledAt 80 = .ok (.goto 15, 3) := dk_167 0 15 (dk_at dksX5_filledAt_3 10 rfl rfl)
theorem dX5_filledAt_83 : decode cX5_filledAt 83 = .ok (.aload_n 0, 1) := dk_42 (dk_at dksX5_filledAt_3 13 rfl rfl)
theorem dX5_filledAt_84 : decode cX5_filledAt 84 = .ok (.getfield 79, 3) := dk_180 0 79 (dk_at dksX5_filledAt_3 14 rfl rfl)
theorem dX5_filledAt_87 : decode cX5_filledAt 87 = .ok (.bipush 40, 2) := dk_16 40 (dk_at dksX5_filledAt_3 17 rfl rfl)
theorem dX5_filledAt_89 : decode cX5_filledAt 89 = .ok (.iload_n 1, 1) := dk_27 (dk_at dksX5_filledAt_3 19 rfl rfl)
theorem dX5_filledAt_90 : decode cX5_filledAt 90 = .ok (.imul, 1) := dk_104 (dk_at dksX5_filledAt_3 20 rfl rfl)
theorem dX5_filledAt_91 : decode cX5_filledAt 91 = .ok (.iload 4, 2) := dk_21 4 (dk_at dksX5_filledAt_3 21 rfl rfl)
theorem dX5_filledAt_93 : decode cX5_filledAt 93 = .ok (.iadd, 1) := dk_96 (dk_at dksX5_filledAt_3 23 rfl rfl)
theorem dX5_filledAt_94 : decode cX5_filledAt 94 = .ok (.laload, 1) := dk_47 (dk_at dksX5_filledAt_4 0 rfl rfl)
theorem dX5_filledAt_95 : decode cX5_filledAt 95 = .ok (.lstore 5, 2) := dk_55 5 (dk_at dksX5_filledAt_4 1 rfl rfl)
theorem dX5_filledAt_97 : decode cX5_filledAt 97 = .ok (.iload 4, 2) := dk_21 4 (dk_at dksX5_filledAt_4 3 rfl rfl)
theorem dX5_filledAt_99 : decode cX5_filledAt 99 = .ok (.aload_n 0, 1) := dk_42 (dk_at dksX5_filledAt_4 5 rfl rfl)
theorem dX5_filledAt_100 : decode cX5_filledAt 100 = .ok (.getfield 76, 3) := dk_180 0 76 (dk_at dksX5_filledAt_4 6 rfl rfl)
theorem dX5_filledAt_103 : decode cX5_filledAt 103 = .ok (.iload_n 1, 1) := dk_27 (dk_at dksX5_filledAt_4 9 rfl rfl)
theorem dX5_filledAt_104 : decode cX5_filledAt 104 = .ok (.iaload, 1) := dk_46 (dk_at dksX5_filledAt_4 10 rfl rfl)
theorem dX5_filledAt_105 : decode cX5_filledAt 105 = .ok (.if_icmp .ge 18, 3) := dk_162 0 18 (dk_at dksX5_filledAt_4 11 rfl rfl)
theorem dX5_filledAt_108 : decode cX5_filledAt 108 = .ok (.aload_n 0, 1) := dk_42 (dk_at dksX5_filledAt_4 14 rfl rfl)
theorem dX5_filledAt_109 : decode cX5_filledAt 109 = .ok (.getfield 79, 3) := dk_180 0 79 (dk_at dksX5_filledAt_4 15 rfl rfl)
theorem dX5_filledAt_112 : decode cX5_filledAt 112 = .ok (.bipush 40, 2) := dk_16 40 (dk_at dksX5_filledAt_4 18 rfl rfl)
theorem dX5_filledAt_114 : decode cX5_filledAt 114 = .ok (.iload_n 1, 1) := dk_27 (dk_at dksX5_filledAt_4 20 rfl rfl)
theorem dX5_filledAt_115 : decode cX5_filledAt 115 = .ok (.imul, 1) := dk_104 (dk_at dksX5_filledAt_4 21 rfl rfl)
theorem dX5_filledAt_116 : decode cX5_filledAt 116 = .ok (.iload 4, 2) := dk_21 4 (dk_at dksX5_filledAt_4 22 rfl rfl)
theorem dX5_filledAt_118 : decode cX5_filledAt 118 = .ok (.iadd, 1) := dk_96 (dk_at dksX5_filledAt_5 0 rfl rfl)
theorem dX5_filledAt_119 : decode cX5_filledAt 119 = .ok (.laload, 1) := dk_47 (dk_at dksX5_filledAt_5 1 rfl rfl)
theorem dX5_filledAt_120 : decode cX5_filledAt 120 = .ok (.goto 5, 3) := dk_167 0 5 (dk_at dksX5_filledAt_5 2 rfl rfl)
theorem dX5_filledAt_123 : decode cX5_filledAt 123 = .ok (.lload 5, 2) := dk_22 5 (dk_at dksX5_filledAt_5 5 rfl rfl)
theorem dX5_filledAt_125 : decode cX5_filledAt 125 = .ok (.lstore 7, 2) := dk_55 7 (dk_at dksX5_filledAt_5 7 rfl rfl)
theorem dX5_filledAt_127 : decode cX5_filledAt 127 = .ok (.lload 5, 2) := dk_22 5 (dk_at dksX5_filledAt_5 9 rfl rfl)
theorem dX5_filledAt_129 : decode cX5_filledAt 129 = .ok (.lload 7, 2) := dk_22 7 (dk_at dksX5_filledAt_5 11 rfl rfl)
theorem dX5_filledAt_131 : decode cX5_filledAt 131 = .ok (.ladd, 1) := dk_97 (dk_at dksX5_filledAt_5 13 rfl rfl)
theorem dX5_filledAt_132 : decode cX5_filledAt 132 = .ok (.ldc2_w 363, 3) := dk_20 1 107 (dk_at dksX5_filledAt_5 14 rfl rfl)
theorem dX5_filledAt_135 : decode cX5_filledAt 135 = .ok (.ldiv, 1) := dk_109 (dk_at dksX5_filledAt_5 17 rfl rfl)
theorem dX5_filledAt_136 : decode cX5_filledAt 136 = .ok (.l2i, 1) := dk_136 (dk_at dksX5_filledAt_5 18 rfl rfl)
theorem dX5_filledAt_137 : decode cX5_filledAt 137 = .ok (.ireturn, 1) := dk_172 (dk_at dksX5_filledAt_5 19 rfl rfl)
abbrev cX5_slip : ByteArray := prog_21_method_108_code
def yX5_slip : MethodName := ⟨RX5, "slip", "(II)I"⟩
def dkwX5_slip_9 : List UInt8 := [154, 0, 12, 42, 16, 156, 182, 1, 27, 167, 0, 4, 29, 172]
abbrev dktX5_slip_9 : List UInt8 := dkwX5_slip_9 ++ []
def dkwX5_slip_8 : List UInt8 := [167, 0, 14, 21, 8, 62, 21, 11, 54, 4, 22, 9, 55, 5, 132, 7, 1, 167, 255, 88, 21, 4]
abbrev dktX5_slip_8 : List UInt8 := dkwX5_slip_8 ++ dktX5_slip_9
def dkwX5_slip_7 : List UInt8 := [153, 0, 38, 21, 4, 158, 0, 22, 22, 9, 21, 4, 133, 105, 22, 5, 21, 11, 133, 105, 148, 155, 0, 6]
abbrev dktX5_slip_7 : List UInt8 := dkwX5_slip_7 ++ dktX5_slip_8
def dkwX5_slip_6 : List UInt8 := [21, 13, 116, 133, 167, 0, 6, 21, 13, 133, 97, 55, 9, 132, 11, 1, 132, 12, 1, 167, 255, 174, 21, 11]
abbrev dktX5_slip_6 : List UInt8 := dkwX5_slip_6 ++ dktX5_slip_7
def dkwX5_slip_5 : List UInt8 := [182, 1, 133, 42, 28, 21, 12, 21, 8, 96, 182, 1, 133, 100, 54, 13, 22, 9, 21, 13, 156, 0, 10]
abbrev dktX5_slip_5 : List UInt8 := dkwX5_slip_5 ++ dktX5_slip_6
def dkwX5_slip_4 : List UInt8 := [133, 9, 42, 180, 0, 76, 28, 46, 4, 100, 133, 184, 0, 152, 154, 0, 6, 167, 0, 46, 42, 27, 21, 12]
abbrev dktX5_slip_4 : List UInt8 := dkwX5_slip_4 ++ dktX5_slip_5
def dkwX5_slip_3 : List UInt8 := [55, 9, 3, 54, 11, 3, 54, 12, 21, 12, 42, 180, 0, 76, 27, 46, 162, 0, 77, 21, 12, 21, 8, 96]
abbrev dktX5_slip_3 : List UInt8 := dkwX5_slip_3 ++ dktX5_slip_4
def dkwX5_slip_2 : List UInt8 := [5, 112, 4, 160, 0, 13, 21, 7, 4, 96, 116, 5, 108, 167, 0, 7, 21, 7, 5, 108, 54, 8, 9]
abbrev dktX5_slip_2 : List UInt8 := dkwX5_slip_2 ++ dktX5_slip_3
def dkwX5_slip_1 : List UInt8 := [182, 1, 27, 172, 2, 62, 3, 54, 4, 9, 55, 5, 3, 54, 7, 21, 7, 16, 7, 162, 0, 167, 21, 7]
abbrev dktX5_slip_1 : List UInt8 := dkwX5_slip_1 ++ dktX5_slip_2
def dkwX5_slip_0 : List UInt8 := [42, 3, 181, 0, 1, 42, 27, 182, 1, 136, 153, 0, 11, 42, 28, 182, 1, 136, 154, 0, 10, 42, 16, 156]
abbrev dktX5_slip_0 : List UInt8 := dkwX5_slip_0 ++ dktX5_slip_1
theorem dksX5_slip_0 : cX5_slip.data.toList.drop 0 = dktX5_slip_0 := by decide +kernel
theorem dksX5_slip_1 : cX5_slip.data.toList.drop 24 = dktX5_slip_1 := dk_seg dksX5_slip_0 24 rfl rfl
theorem dksX5_slip_2 : cX5_slip.data.toList.drop 48 = dktX5_slip_2 := dk_seg dksX5_slip_1 24 rfl rfl
theorem dksX5_slip_3 : cX5_slip.data.toList.drop 71 = dktX5_slip_3 := dk_seg dksX5_slip_2 23 rfl rfl
theorem dksX5_slip_4 : cX5_slip.data.toList.drop 95 = dktX5_slip_4 := dk_seg dksX5_slip_3 24 rfl rfl
theorem dksX5_slip_5 : cX5_slip.data.toList.drop 119 = dktX5_slip_5 := dk_seg dksX5_slip_4 24 rfl rfl
theorem dksX5_slip_6 : cX5_slip.data.toList.drop 142 = dktX5_slip_6 := dk_seg dksX5_slip_5 23 rfl rfl
theorem dksX5_slip_7 : cX5_slip.data.toList.drop 166 = dktX5_slip_7 := dk_seg dksX5_slip_6 24 rfl rfl
theorem dksX5_slip_8 : cX5_slip.data.toList.drop 190 = dktX5_slip_8 := dk_seg dksX5_slip_7 24 rfl rfl
theorem dksX5_slip_9 : cX5_slip.data.toList.drop 212 = dktX5_slip_9 := dk_seg dksX5_slip_8 22 rfl rfl
theorem dX5_slip_0 : decode cX5_slip 0 = .ok (.aload_n 0, 1) := dk_42 (dk_at dksX5_slip_0 0 rfl rfl)
theorem dX5_slip_1 : decode cX5_slip 1 = .ok (.iconst 0, 1) := dk_3 (dk_at dksX5_slip_0 1 rfl rfl)
theorem dX5_slip_2 : decode cX5_slip 2 = .ok (.putfield 1, 3) := dk_181 0 1 (dk_at dksX5_slip_0 2 rfl rfl)
theorem dX5_slip_5 : decode cX5_slip 5 = .ok (.aload_n 0, 1) := dk_42 (dk_at dksX5_slip_0 5 rfl rfl)
theorem dX5_slip_6 : decode cX5_slip 6 = .ok (.iload_n 1, 1) := dk_27 (dk_at dksX5_slip_0 6 rfl rfl)
theorem dX5_slip_7 : decode cX5_slip 7 = .ok (.invokevirtual 392, 3) := dk_182 1 136 (dk_at dksX5_slip_0 7 rfl rfl)
theorem dX5_slip_10 : decode cX5_slip 10 = .ok (.ifCond .eq 11, 3) := dk_153 0 11 (dk_at dksX5_slip_0 10 rfl rfl)
theorem dX5_slip_13 : decode cX5_slip 13 = .ok (.aload_n 0, 1) := dk_42 (dk_at dksX5_slip_0 13 rfl rfl)
theorem dX5_slip_14 : decode cX5_slip 14 = .ok (.iload_n 2, 1) := dk_28 (dk_at dksX5_slip_0 14 rfl rfl)
theorem dX5_slip_15 : decode cX5_slip 15 = .ok (.invokevirtual 392, 3) := dk_182 1 136 (dk_at dksX5_slip_0 15 rfl rfl)
theorem dX5_slip_18 : decode cX5_slip 18 = .ok (.ifCond .ne 10, 3) := dk_154 0 10 (dk_at dksX5_slip_0 18 rfl rfl)
theorem dX5_slip_21 : decode cX5_slip 21 = .ok (.aload_n 0, 1) := dk_42 (dk_at dksX5_slip_0 21 rfl rfl)
theorem dX5_slip_22 : decode cX5_slip 22 = .ok (.bipush (-100), 2) := dk_16 156 (dk_at dksX5_slip_0 22 rfl rfl)
theorem dX5_slip_24 : decode cX5_slip 24 = .ok (.invokevirtual 283, 3) := dk_182 1 27 (dk_at dksX5_slip_1 0 rfl rfl)
theorem dX5_slip_27 : decode cX5_slip 27 = .ok (.ireturn, 1) := dk_172 (dk_at dksX5_slip_1 3 rfl rfl)
theorem dX5_slip_28 : decode cX5_slip 28 = .ok (.iconst (-1), 1) := dk_2 (dk_at dksX5_slip_1 4 rfl rfl)
theorem dX5_slip_29 : decode cX5_slip 29 = .ok (.istore_n 3, 1) := dk_62 (dk_at dksX5_slip_1 5 rfl rfl)
theorem dX5_slip_30 : decode cX5_slip 30 = .ok (.iconst 0, 1) := dk_3 (dk_at dksX5_slip_1 6 rfl rfl)
theorem dX5_slip_31 : decode cX5_slip 31 = .ok (.istore 4, 2) := dk_54 4 (dk_at dksX5_slip_1 7 rfl rfl)
theorem dX5_slip_33 : decode cX5_slip 33 = .ok (.lconst 0, 1) := dk_9 (dk_at dksX5_slip_1 9 rfl rfl)
theorem dX5_slip_34 : decode cX5_slip 34 = .ok (.lstore 5, 2) := dk_55 5 (dk_at dksX5_slip_1 10 rfl rfl)
theorem dX5_slip_36 : decode cX5_slip 36 = .ok (.iconst 0, 1) := dk_3 (dk_at dksX5_slip_1 12 rfl rfl)
theorem dX5_slip_37 : decode cX5_slip 37 = .ok (.istore 7, 2) := dk_54 7 (dk_at dksX5_slip_1 13 rfl rfl)
theorem dX5_slip_39 : decode cX5_slip 39 = .ok (.iload 7, 2) := dk_21 7 (dk_at dksX5_slip_1 15 rfl rfl)
theorem dX5_slip_41 : decode cX5_slip 41 = .ok (.bipush 7, 2) := dk_16 7 (dk_at dksX5_slip_1 17 rfl rfl)
theorem dX5_slip_43 : decode cX5_slip 43 = .ok (.if_icmp .ge 167, 3) := dk_162 0 167 (dk_at dksX5_slip_1 19 rfl rfl)
theorem dX5_slip_46 : decode cX5_slip 46 = .ok (.iload 7, 2) := dk_21 7 (dk_at dksX5_slip_1 22 rfl rfl)
theorem dX5_slip_48 : decode cX5_slip 48 = .ok (.iconst 2, 1) := dk_5 (dk_at dksX5_slip_2 0 rfl rfl)
theorem dX5_slip_49 : decode cX5_slip 49 = .ok (.irem, 1) := dk_112 (dk_at dksX5_slip_2 1 rfl rfl)
theorem dX5_slip_50 : decode cX5_slip 50 = .ok (.iconst 1, 1) := dk_4 (dk_at dksX5_slip_2 2 rfl rfl)
theorem dX5_slip_51 : decode cX5_slip 51 = .ok (.if_icmp .ne 13, 3) := dk_160 0 13 (dk_at dksX5_slip_2 3 rfl rfl)
theorem dX5_slip_54 : decode cX5_slip 54 = .ok (.iload 7, 2) := dk_21 7 (dk_at dksX5_slip_2 6 rfl rfl)
theorem dX5_slip_56 : decode cX5_slip 56 = .ok (.iconst 1, 1) := dk_4 (dk_at dksX5_slip_2 8 rfl rfl)
theorem dX5_slip_57 : decode cX5_slip 57 = .ok (.iadd, 1) := dk_96 (dk_at dksX5_slip_2 9 rfl rfl)
theorem dX5_slip_58 : decode cX5_slip 58 = .ok (.ineg, 1) := dk_116 (dk_at dksX5_slip_2 10 rfl rfl)
theorem dX5_slip_59 : decode cX5_slip 59 = .ok (.iconst 2, 1) := dk_5 (dk_at dksX5_slip_2 11 rfl rfl)
theorem dX5_slip_60 : decode cX5_slip 60 = .ok (.idiv, 1) := dk_108 (dk_at dksX5_slip_2 12 rfl rfl)
theorem dX5_slip_61 : decode cX5_slip 61 = .ok (.goto 7, 3) := dk_167 0 7 (dk_at dksX5_slip_2 13 rfl rfl)
theorem dX5_slip_64 : decode cX5_slip 64 = .ok (.iload 7, 2) := dk_21 7 (dk_at dksX5_slip_2 16 rfl rfl)
theorem dX5_slip_66 : decode cX5_slip 66 = .ok (.iconst 2, 1) := dk_5 (dk_at dksX5_slip_2 18 rfl rfl)
theorem dX5_slip_67 : decode cX5_slip 67 = .ok (.idiv, 1) := dk_108 (dk_at dksX5_slip_2 19 rfl rfl)
theorem dX5_slip_68 : decode cX5_slip 68 = .ok (.istore 8, 2) := dk_54 8 (dk_at dksX5_slip_2 20 rfl rfl)
theorem dX5_slip_70 : decode cX5_slip 70 = .ok (.lconst 0, 1) := dk_9 (dk_at dksX5_slip_2 22 rfl rfl)
theorem dX5_slip_71 : decode cX5_slip 71 = .ok (.lstore 9, 2) := dk_55 9 (dk_at dksX5_slip_3 0 rfl rfl)
theorem dX5_slip_73 : decode cX5_slip 73 = .ok (.iconst 0, 1) := dk_3 (dk_at dksX5_slip_3 2 rfl rfl)
theorem dX5_slip_74 : decode cX5_slip 74 = .ok (.istore 11, 2) := dk_54 11 (dk_at dksX5_slip_3 3 rfl rfl)
theorem dX5_slip_76 : decode cX5_slip 76 = .ok (.iconst 0, 1) := dk_3 (dk_at dksX5_slip_3 5 rfl rfl)
theorem dX5_slip_77 : decode cX5_slip 77 = .ok (.istore 12, 2) := dk_54 12 (dk_at dksX5_slip_3 6 rfl rfl)
theorem dX5_slip_79 : decode cX5_slip 79 = .ok (.iload 12, 2) := dk_21 12 (dk_at dksX5_slip_3 8 rfl rfl)
theorem dX5_slip_81 : decode cX5_slip 81 = .ok (.aload_n 0, 1) := dk_42 (dk_at dksX5_slip_3 10 rfl rfl)
theorem dX5_slip_82 : decode cX5_slip 82 = .ok (.getfield 76, 3) := dk_180 0 76 (dk_at dksX5_slip_3 11 rfl rfl)
theorem dX5_slip_85 : decode cX5_slip 85 = .ok (.iload_n 1, 1) := dk_27 (dk_at dksX5_slip_3 14 rfl rfl)
theorem dX5_slip_86 : decode cX5_slip 86 = .ok (.iaload, 1) := dk_46 (dk_at dksX5_slip_3 15 rfl rfl)
theorem dX5_slip_87 : decode cX5_slip 87 = .ok (.if_icmp .ge 77, 3) := dk_162 0 77 (dk_at dksX5_slip_3 16 rfl rfl)
theorem dX5_slip_90 : decode cX5_slip 90 = .ok (.iload 12, 2) := dk_21 12 (dk_at dksX5_slip_3 19 rfl rfl)
theorem dX5_slip_92 : decode cX5_slip 92 = .ok (.iload 8, 2) := dk_21 8 (dk_at dksX5_slip_3 21 rfl rfl)
theorem dX5_slip_94 : decode cX5_slip 94 = .ok (.iadd, 1) := dk_96 (dk_at dksX5_slip_3 23 rfl rfl)
theorem dX5_slip_95 : decode cX5_slip 95 = .ok (.i2l, 1) := dk_133 (dk_at dksX5_slip_4 0 rfl rfl)
theorem dX5_slip_96 : decode cX5_slip 96 = .ok (.lconst 0, 1) := dk_9 (dk_at dksX5_slip_4 1 rfl rfl)
theorem dX5_slip_97 : decode cX5_slip 97 = .ok (.aload_n 0, 1) := dk_42 (dk_at dksX5_slip_4 2 rfl rfl)
theorem dX5_slip_98 : decode cX5_slip 98 = .ok (.getfield 76, 3) := dk_180 0 76 (dk_at dksX5_slip_4 3 rfl rfl)
theorem dX5_slip_101 : decode cX5_slip 101 = .ok (.iload_n 2, 1) := dk_28 (dk_at dksX5_slip_4 6 rfl rfl)
theorem dX5_slip_102 : decode cX5_slip 102 = .ok (.iaload, 1) := dk_46 (dk_at dksX5_slip_4 7 rfl rfl)
theorem dX5_slip_103 : decode cX5_slip 103 = .ok (.iconst 1, 1) := dk_4 (dk_at dksX5_slip_4 8 rfl rfl)
theorem dX5_slip_104 : decode cX5_slip 104 = .ok (.isub, 1) := dk_100 (dk_at dksX5_slip_4 9 rfl rfl)
theorem dX5_slip_105 : decode cX5_slip 105 = .ok (.i2l, 1) := dk_133 (dk_at dksX5_slip_4 10 rfl rfl)
theorem dX5_slip_106 : decode cX5_slip 106 = .ok (.invokestatic 152, 3) := dk_184 0 152 (dk_at dksX5_slip_4 11 rfl rfl)
theorem dX5_slip_109 : decode cX5_slip 109 = .ok (.ifCond .ne 6, 3) := dk_154 0 6 (dk_at dksX5_slip_4 14 rfl rfl)
theorem dX5_slip_112 : decode cX5_slip 112 = .ok (.goto 46, 3) := dk_167 0 46 (dk_at dksX5_slip_4 17 rfl rfl)
theorem dX5_slip_115 : decode cX5_slip 115 = .ok (.aload_n 0, 1) := dk_42 (dk_at dksX5_slip_4 20 rfl rfl)
theorem dX5_slip_116 : decode cX5_slip 116 = .ok (.iload_n 1, 1) := dk_27 (dk_at dksX5_slip_4 21 rfl rfl)
theorem dX5_slip_117 : decode cX5_slip 117 = .ok (.iload 12, 2) := dk_21 12 (dk_at dksX5_slip_4 22 rfl rfl)
theorem dX5_slip_119 : decode cX5_slip 119 = .ok (.invokevirtual 389, 3) := dk_182 1 133 (dk_at dksX5_slip_5 0 rfl rfl)
theorem dX5_slip_122 : decode cX5_slip 122 = .ok (.aload_n 0, 1) := dk_42 (dk_at dksX5_slip_5 3 rfl rfl)
theorem dX5_slip_123 : decode cX5_slip 123 = .ok (.iload_n 2, 1) := dk_28 (dk_at dksX5_slip_5 4 rfl rfl)
theorem dX5_slip_124 : decode cX5_slip 124 = .ok (.iload 12, 2) := dk_21 12 (dk_at dksX5_slip_5 5 rfl rfl)
theorem dX5_slip_126 : decode cX5_slip 126 = .ok (.iload 8, 2) := dk_21 8 (dk_at dksX5_slip_5 7 rfl rfl)
theorem dX5_slip_128 : decode cX5_slip 128 = .ok (.iadd, 1) := dk_96 (dk_at dksX5_slip_5 9 rfl rfl)
theorem dX5_slip_129 : decode cX5_slip 129 = .ok (.invokevirtual 389, 3) := dk_182 1 133 (dk_at dksX5_slip_5 10 rfl rfl)
theorem dX5_slip_132 : decode cX5_slip 132 = .ok (.isub, 1) := dk_100 (dk_at dksX5_slip_5 13 rfl rfl)
theorem dX5_slip_133 : decode cX5_slip 133 = .ok (.istore 13, 2) := dk_54 13 (dk_at dksX5_slip_5 14 rfl rfl)
theorem dX5_slip_135 : decode cX5_slip 135 = .ok (.lload 9, 2) := dk_22 9 (dk_at dksX5_slip_5 16 rfl rfl)
theorem dX5_slip_137 : decode cX5_slip 137 = .ok (.iload 13, 2) := dk_21 13 (dk_at dksX5_slip_5 18 rfl rfl)
theorem dX5_slip_139 : decode cX5_slip 139 = .ok (.ifCond .ge 10, 3) := dk_156 0 10 (dk_at dksX5_slip_5 20 rfl rfl)
theorem dX5_slip_142 : decode cX5_slip 142 = .ok (.iload 13, 2) := dk_21 13 (dk_at dksX5_slip_6 0 rfl rfl)
theorem dX5_slip_144 : decode cX5_slip 144 = .ok (.ineg, 1) := dk_116 (dk_at dksX5_slip_6 2 rfl rfl)
theorem dX5_slip_145 : decode cX5_slip 145 = .ok (.i2l, 1) := dk_133 (dk_at dksX5_slip_6 3 rfl rfl)
theorem dX5_slip_146 : decode cX5_slip 146 = .ok (.goto 6, 3) := dk_167 0 6 (dk_at dksX5_slip_6 4 rfl rfl)
theorem dX5_slip_149 : decode cX5_slip 149 = .ok (.iload 13, 2) := dk_21 13 (dk_at dksX5_slip_6 7 rfl rfl)
theorem dX5_slip_151 : decode cX5_slip 151 = .ok (.i2l, 1) := dk_133 (dk_at dksX5_slip_6 9 rfl rfl)
theorem dX5_slip_152 : decode cX5_slip 152 = .ok (.ladd, 1) := dk_97 (dk_at dksX5_slip_6 10 rfl rfl)
theorem dX5_slip_153 : decode cX5_slip 153 = .ok (.lstore 9, 2) := dk_55 9 (dk_at dksX5_slip_6 11 rfl rfl)
theorem dX5_slip_155 : decode cX5_slip 155 = .ok (.iinc 11 1, 3) := dk_132 11 1 (dk_at dksX5_slip_6 13 rfl rfl)
theorem dX5_slip_158 : decode cX5_slip 158 = .ok (.iinc 12 1, 3) := dk_132 12 1 (dk_at dksX5_slip_6 16 rfl rfl)
theorem dX5_slip_161 : decode cX5_slip 161 = .ok (.goto (-82), 3) := dk_167 255 174 (dk_at dksX5_slip_6 19 rfl rfl)
theorem dX5_slip_164 : decode cX5_slip 164 = .ok (.iload 11, 2) := dk_21 11 (dk_at dksX5_slip_6 22 rfl rfl)
theorem dX5_slip_166 : decode cX5_slip 166 = .ok (.ifCond .eq 38, 3) := dk_153 0 38 (dk_at dksX5_slip_7 0 rfl rfl)
theorem dX5_slip_169 : decode cX5_slip 169 = .ok (.iload 4, 2) := dk_21 4 (dk_at dksX5_slip_7 3 rfl rfl)
theorem dX5_slip_171 : decode cX5_slip 171 = .ok (.ifCond .le 22, 3) := dk_158 0 22 (dk_at dksX5_slip_7 5 rfl rfl)
theorem dX5_slip_174 : decode cX5_slip 174 = .ok (.lload 9, 2) := dk_22 9 (dk_at dksX5_slip_7 8 rfl rfl)
theorem dX5_slip_176 : decode cX5_slip 176 = .ok (.iload 4, 2) := dk_21 4 (dk_at dksX5_slip_7 10 rfl rfl)
theorem dX5_slip_178 : decode cX5_slip 178 = .ok (.i2l, 1) := dk_133 (dk_at dksX5_slip_7 12 rfl rfl)
theorem dX5_slip_179 : decode cX5_slip 179 = .ok (.lmul, 1) := dk_105 (dk_at dksX5_slip_7 13 rfl rfl)
theorem dX5_slip_180 : decode cX5_slip 180 = .ok (.lload 5, 2) := dk_22 5 (dk_at dksX5_slip_7 14 rfl rfl)
theorem dX5_slip_182 : decode cX5_slip 182 = .ok (.iload 11, 2) := dk_21 11 (dk_at dksX5_slip_7 16 rfl rfl)
theorem dX5_slip_184 : decode cX5_slip 184 = .ok (.i2l, 1) := dk_133 (dk_at dksX5_slip_7 18 rfl rfl)
theorem dX5_slip_185 : decode cX5_slip 185 = .ok (.lmul, 1) := dk_105 (dk_at dksX5_slip_7 19 rfl rfl)
theorem dX5_slip_186 : decode cX5_slip 186 = .ok (.lcmp, 1) := dk_148 (dk_at dksX5_slip_7 20 rfl rfl)
theorem dX5_slip_187 : decode cX5_slip 187 = .ok (.ifCond .lt 6, 3) := dk_155 0 6 (dk_at dksX5_slip_7 21 rfl rfl)
theorem dX5_slip_190 : decode cX5_slip 190 = .ok (.goto 14, 3) := dk_167 0 14 (dk_at dksX5_slip_8 0 rfl rfl)
theorem dX5_slip_193 : decode cX5_slip 193 = .ok (.iload 8, 2) := dk_21 8 (dk_at dksX5_slip_8 3 rfl rfl)
theorem dX5_slip_195 : decode cX5_slip 195 = .ok (.istore_n 3, 1) := dk_62 (dk_at dksX5_slip_8 5 rfl rfl)
theorem dX5_slip_196 : decode cX5_slip 196 = .ok (.iload 11, 2) := dk_21 11 (dk_at dksX5_slip_8 6 rfl rfl)
theorem dX5_slip_198 : decode cX5_slip 198 = .ok (.istore 4, 2) := dk_54 4 (dk_at dksX5_slip_8 8 rfl rfl)
theorem dX5_slip_200 : decode cX5_slip 200 = .ok (.lload 9, 2) := dk_22 9 (dk_at dksX5_slip_8 10 rfl rfl)
theorem dX5_slip_202 : decode cX5_slip 202 = .ok (.lstore 5, 2) := dk_55 5 (dk_at dksX5_slip_8 12 rfl rfl)
theorem dX5_slip_204 : decode cX5_slip 204 = .ok (.iinc 7 1, 3) := dk_132 7 1 (dk_at dksX5_slip_8 14 rfl rfl)
theorem dX5_slip_207 : decode cX5_slip 207 = .ok (.goto (-168), 3) := dk_167 255 88 (dk_at dksX5_slip_8 17 rfl rfl)
theorem dX5_slip_210 : decode cX5_slip 210 = .ok (.iload 4, 2) := dk_21 4 (dk_at dksX5_slip_8 20 rfl rfl)
theorem dX5_slip_212 : decode cX5_slip 212 = .ok (.ifCond .ne 12, 3) := dk_154 0 12 (dk_at dksX5_slip_9 0 rfl rfl)
theorem dX5_slip_215 : decode cX5_slip 215 = .ok (.aload_n 0, 1) := dk_42 (dk_at dksX5_slip_9 3 rfl rfl)
theorem dX5_slip_216 : decode cX5_slip 216 = .ok (.bipush (-100), 2) := dk_16 156 (dk_at dksX5_slip_9 4 rfl rfl)
theorem dX5_slip_218 : decode cX5_slip 218 = .ok (.invokevirtual 283, 3) := dk_182 1 27 (dk_at dksX5_slip_9 6 rfl rfl)
theorem dX5_slip_221 : decode cX5_slip 221 = .ok (.goto 4, 3) := dk_167 0 4 (dk_at dksX5_slip_9 9 rfl rfl)
theorem dX5_slip_224 : decode cX5_slip 224 = .ok (.iload_n 3, 1) := dk_29 (dk_at dksX5_slip_9 12 rfl rfl)
theorem dX5_slip_225 : decode cX5_slip 225 = .ok (.ireturn, 1) := dk_172 (dk_at dksX5_slip_9 13 rfl rfl)
abbrev cX5_isRow : ByteArray := prog_21_method_107_code
def yX5_isRow : MethodName := ⟨RX5, "isRow", "(I)Z"⟩
def dkwX5_isRow_1 : List UInt8 := [182, 1, 130, 158, 0, 15, 42, 27, 182, 1, 127, 154, 0, 7, 4, 167, 0, 4, 3, 172]
abbrev dktX5_isRow_1 : List UInt8 := dkwX5_isRow_1 ++ []
def dkwX5_isRow_0 : List UInt8 := [27, 133, 9, 20, 0, 213, 184, 0, 152, 153, 0, 33, 42, 180, 0, 73, 27, 46, 2, 159, 0, 23, 42, 27]
abbrev dktX5_isRow_0 : List UInt8 := dkwX5_isRow_0 ++ dktX5_isRow_1
theorem dksX5_isRow_0 : cX5_isRow.data.toList.drop 0 = dktX5_isRow_0 := by decide +kernel
theorem dksX5_isRow_1 : cX5_isRow.data.toList.drop 24 = dktX5_isRow_1 := dk_seg dksX5_isRow_0 24 rfl rfl
theorem dX5_isRow_0 : decode cX5_isRow 0 = .ok (.iload_n 1, 1) := dk_27 (dk_at dksX5_isRow_0 0 rfl rfl)
theorem dX5_isRow_1 : decode cX5_isRow 1 = .ok (.i2l, 1) := dk_133 (dk_at dksX5_isRow_0 1 rfl rfl)
theorem dX5_isRow_2 : decode cX5_isRow 2 = .ok (.lconst 0, 1) := dk_9 (dk_at dksX5_isRow_0 2 rfl rfl)
theorem dX5_isRow_3 : decode cX5_isRow 3 = .ok (.ldc2_w 213, 3) := dk_20 0 213 (dk_at dksX5_isRow_0 3 rfl rfl)
theorem dX5_isRow_6 : decode cX5_isRow 6 = .ok (.invokestatic 152, 3) := dk_184 0 152 (dk_at dksX5_isRow_0 6 rfl rfl)
theorem dX5_isRow_9 : decode cX5_isRow 9 = .ok (.ifCond .eq 33, 3) := dk_153 0 33 (dk_at dksX5_isRow_0 9 rfl rfl)
theorem dX5_isRow_12 : decode cX5_isRow 12 = .ok (.aload_n 0, 1) := dk_42 (dk_at dksX5_isRow_0 12 rfl rfl)
theorem dX5_isRow_13 : decode cX5_isRow 13 = .ok (.getfield 73, 3) := dk_180 0 73 (dk_at dksX5_isRow_0 13 rfl rfl)
theorem dX5_isRow_16 : decode cX5_isRow 16 = .ok (.iload_n 1, 1) := dk_27 (dk_at dksX5_isRow_0 16 rfl rfl)
theorem dX5_isRow_17 : decode cX5_isRow 17 = .ok (.iaload, 1) := dk_46 (dk_at dksX5_isRow_0 17 rfl rfl)
theorem dX5_isRow_18 : decode cX5_isRow 18 = .ok (.iconst (-1), 1) := dk_2 (dk_at dksX5_isRow_0 18 rfl rfl)
theorem dX5_isRow_19 : decode cX5_isRow 19 = .ok (.if_icmp .eq 23, 3) := dk_159 0 23 (dk_at dksX5_isRow_0 19 rfl rfl)
theorem dX5_isRow_22 : decode cX5_isRow 22 = .ok (.aload_n 0, 1) := dk_42 (dk_at dksX5_isRow_0 22 rfl rfl)
theorem dX5_isRow_23 : decode cX5_isRow 23 = .ok (.iload_n 1, 1) := dk_27 (dk_at dksX5_isRow_0 23 rfl rfl)
theorem dX5_isRow_24 : decode cX5_isRow 24 = .ok (.invokevirtual 386, 3) := dk_182 1 130 (dk_at dksX5_isRow_1 0 rfl rfl)
theorem dX5_isRow_27 : decode cX5_isRow 27 = .ok (.ifCond .le 15, 3) := dk_158 0 15 (dk_at dksX5_isRow_1 3 rfl rfl)
theorem dX5_isRow_30 : decode cX5_isRow 30 = .ok (.aload_n 0, 1) := dk_42 (dk_at dksX5_isRow_1 6 rfl rfl)
theorem dX5_isRow_31 : decode cX5_isRow 31 = .ok (.iload_n 1, 1) := dk_27 (dk_at dksX5_isRow_1 7 rfl rfl)
theorem dX5_isRow_32 : decode cX5_isRow 32 = .ok (.invokevirtual 383, 3) := dk_182 1 127 (dk_at dksX5_isRow_1 8 rfl rfl)
theorem dX5_isRow_35 : decode cX5_isRow 35 = .ok (.ifCond .ne 7, 3) := dk_154 0 7 (dk_at dksX5_isRow_1 11 rfl rfl)
theorem dX5_isRow_38 : decode cX5_isRow 38 = .ok (.iconst 1, 1) := dk_4 (dk_at dksX5_isRow_1 14 rfl rfl)
theorem dX5_isRow_39 : decode cX5_isRow 39 = .ok (.goto 4, 3) := dk_167 0 4 (dk_at dksX5_isRow_1 15 rfl rfl)
theorem dX5_isRow_42 : decode cX5_isRow 42 = .ok (.iconst 0, 1) := dk_3 (dk_at dksX5_isRow_1 18 rfl rfl)
theorem dX5_isRow_43 : decode cX5_isRow 43 = .ok (.ireturn, 1) := dk_172 (dk_at dksX5_isRow_1 19 rfl rfl)
abbrev cX5_numbers : ByteArray := prog_21_method_110_code
def yX5_numbers : MethodName := ⟨RX5, "numbers", "(III)I"⟩
def dkwX5_numbers_4 : List UInt8 := [132, 4, 1, 167, 255, 234, 3, 172]
abbrev dktX5_numbers_4 : List UInt8 := dkwX5_numbers_4 ++ []
def dkwX5_numbers_3 : List UInt8 := [3, 54, 4, 21, 4, 29, 162, 0, 22, 42, 180, 0, 79, 16, 40, 27, 104, 21, 4, 96, 9, 80]
abbrev dktX5_numbers_3 : List UInt8 := dkwX5_numbers_3 ++ dktX5_numbers_4
def dkwX5_numbers_2 : List UInt8 := [154, 0, 10, 42, 16, 253, 182, 0, 89, 172, 42, 180, 0, 73, 27, 28, 79, 42, 180, 0, 76, 27, 29, 79]
abbrev dktX5_numbers_2 : List UInt8 := dkwX5_numbers_2 ++ dktX5_numbers_3
def dkwX5_numbers_1 : List UInt8 := [184, 0, 152, 154, 0, 10, 42, 16, 254, 182, 0, 89, 172, 29, 133, 9, 20, 1, 139, 184, 0, 152]
abbrev dktX5_numbers_1 : List UInt8 := dkwX5_numbers_1 ++ dktX5_numbers_2
def dkwX5_numbers_0 : List UInt8 := [42, 3, 181, 0, 1, 27, 133, 9, 20, 0, 213, 184, 0, 152, 153, 0, 15, 28, 133, 9, 20, 0, 213]
abbrev dktX5_numbers_0 : List UInt8 := dkwX5_numbers_0 ++ dktX5_numbers_1
theorem dksX5_numbers_0 : cX5_numbers.data.toList.drop 0 = dktX5_numbers_0 := by decide +kernel
theorem dksX5_numbers_1 : cX5_numbers.data.toList.drop 23 = dktX5_numbers_1 := dk_seg dksX5_numbers_0 23 rfl rfl
theorem dksX5_numbers_2 : cX5_numbers.data.toList.drop 45 = dktX5_numbers_2 := dk_seg dksX5_numbers_1 22 rfl rfl
theorem dksX5_numbers_3 : cX5_numbers.data.toList.drop 69 = dktX5_numbers_3 := dk_seg dksX5_numbers_2 24 rfl rfl
theorem dksX5_numbers_4 : cX5_numbers.data.toList.drop 91 = dktX5_numbers_4 := dk_seg dksX5_numbers_3 22 rfl rfl
theorem dX5_numbers_0 : decode cX5_numbers 0 = .ok (.aload_n 0, 1) := dk_42 (dk_at dksX5_numbers_0 0 rfl rfl)
theorem dX5_numbers_1 : decode cX5_numbers 1 = .ok (.iconst 0, 1) := dk_3 (dk_at dksX5_numbers_0 1 rfl rfl)
theorem dX5_numbers_2 : decode cX5_numbers 2 = .ok (.putfield 1, 3) := dk_181 0 1 (dk_at dksX5_numbers_0 2 rfl rfl)
theorem dX5_numbers_5 : decode cX5_numbers 5 = .ok (.iload_n 1, 1) := dk_27 (dk_at dksX5_numbers_0 5 rfl rfl)
theorem dX5_numbers_6 : decode cX5_numbers 6 = .ok (.i2l, 1) := dk_133 (dk_at dksX5_numbers_0 6 rfl rfl)
theorem dX5_numbers_7 : decode cX5_numbers 7 = .ok (.lconst 0, 1) := dk_9 (dk_at dksX5_numbers_0 7 rfl rfl)
theorem dX5_numbers_8 : decode cX5_numbers 8 = .ok (.ldc2_w 213, 3) := dk_20 0 213 (dk_at dksX5_numbers_0 8 rfl rfl)
theorem dX5_numbers_11 : decode cX5_numbers 11 = .ok (.invokestatic 152, 3) := dk_184 0 152 (dk_at dksX5_numbers_0 11 rfl rfl)
theorem dX5_numbers_14 : decode cX5_numbers 14 = .ok (.ifCond .eq 15, 3) := dk_153 0 15 (dk_at dksX5_numbers_0 14 rfl rfl)
theorem dX5_numbers_17 : decode cX5_numbers 17 = .ok (.iload_n 2, 1) := dk_28 (dk_at dksX5_numbers_0 17 rfl rfl)
theorem dX5_numbers_18 : decode cX5_numbers 18 = .ok (.i2l, 1) := dk_133 (dk_at dksX5_numbers_0 18 rfl rfl)
theorem dX5_numbers_19 : decode cX5_numbers 19 = .ok (.lconst 0, 1) := dk_9 (dk_at dksX5_numbers_0 19 rfl rfl)
theorem dX5_numbers_20 : decode cX5_numbers 20 = .ok (.ldc2_w 213, 3) := dk_20 0 213 (dk_at dksX5_numbers_0 20 rfl rfl)
theorem dX5_numbers_23 : decode cX5_numbers 23 = .ok (.invokestatic 152, 3) := dk_184 0 152 (dk_at dksX5_numbers_1 0 rfl rfl)
theorem dX5_numbers_26 : decode cX5_numbers 26 = .ok (.ifCond .ne 10, 3) := dk_154 0 10 (dk_at dksX5_numbers_1 3 rfl rfl)
theorem dX5_numbers_29 : decode cX5_numbers 29 = .ok (.aload_n 0, 1) := dk_42 (dk_at dksX5_numbers_1 6 rfl rfl)
theorem dX5_numbers_30 : decode cX5_numbers 30 = .ok (.bipush (-2), 2) := dk_16 254 (dk_at dksX5_numbers_1 7 rfl rfl)
theorem dX5_numbers_32 : decode cX5_numbers 32 = .ok (.invokevirtual 89, 3) := dk_182 0 89 (dk_at dksX5_numbers_1 9 rfl rfl)
theorem dX5_numbers_35 : decode cX5_numbers 35 = .ok (.ireturn, 1) := dk_172 (dk_at dksX5_numbers_1 12 rfl rfl)
theorem dX5_numbers_36 : decode cX5_numbers 36 = .ok (.iload_n 3, 1) := dk_29 (dk_at dksX5_numbers_1 13 rfl rfl)
theorem dX5_numbers_37 : decode cX5_numbers 37 = .ok (.i2l, 1) := dk_133 (dk_at dksX5_numbers_1 14 rfl rfl)
theorem dX5_numbers_38 : decode cX5_numbers 38 = .ok (.lconst 0, 1) := dk_9 (dk_at dksX5_numbers_1 15 rfl rfl)
theorem dX5_numbers_39 : decode cX5_numbers 39 = .ok (.ldc2_w 395, 3) := dk_20 1 139 (dk_at dksX5_numbers_1 16 rfl rfl)
theorem dX5_numbers_42 : decode cX5_numbers 42 = .ok (.invokestatic 152, 3) := dk_184 0 152 (dk_at dksX5_numbers_1 19 rfl rfl)
theorem dX5_numbers_45 : decode cX5_numbers 45 = .ok (.ifCond .ne 10, 3) := dk_154 0 10 (dk_at dksX5_numbers_2 0 rfl rfl)
theorem dX5_numbers_48 : decode cX5_numbers 48 = .ok (.aload_n 0, 1) := dk_42 (dk_at dksX5_numbers_2 3 rfl rfl)
theorem dX5_numbers_49 : decode cX5_numbers 49 = .ok (.bipush (-3), 2) := dk_16 253 (dk_at dksX5_numbers_2 4 rfl rfl)
theorem dX5_numbers_51 : decode cX5_numbers 51 = .ok (.invokevirtual 89, 3) := dk_182 0 89 (dk_at dksX5_numbers_2 6 rfl rfl)
theorem dX5_numbers_54 : decode cX5_numbers 54 = .ok (.ireturn, 1) := dk_172 (dk_at dksX5_numbers_2 9 rfl rfl)
theorem dX5_numbers_55 : decode cX5_numbers 55 = .ok (.aload_n 0, 1) := dk_42 (dk_at dksX5_numbers_2 10 rfl rfl)
theorem dX5_numbers_56 : decode cX5_numbers 56 = .ok (.getfield 73, 3) := dk_180 0 73 (dk_at dksX5_numbers_2 11 rfl rfl)
theorem dX5_numbers_59 : decode cX5_numbers 59 = .ok (.iload_n 1, 1) := dk_27 (dk_at dksX5_numbers_2 14 rfl rfl)
theorem dX5_numbers_60 : decode cX5_numbers 60 = .ok (.iload_n 2, 1) := dk_28 (dk_at dksX5_numbers_2 15 rfl rfl)
theorem dX5_numbers_61 : decode cX5_numbers 61 = .ok (.iastore, 1) := dk_79 (dk_at dksX5_numbers_2 16 rfl rfl)
theorem dX5_numbers_62 : decode cX5_numbers 62 = .ok (.aload_n 0, 1) := dk_42 (dk_at dksX5_numbers_2 17 rfl rfl)
theorem dX5_numbers_63 : decode cX5_numbers 63 = .ok (.getfield 76, 3) := dk_180 0 76 (dk_at dksX5_numbers_2 18 rfl rfl)
theorem dX5_numbers_66 : decode cX5_numbers 66 = .ok (.iload_n 1, 1) := dk_27 (dk_at dksX5_numbers_2 21 rfl rfl)
theorem dX5_numbers_67 : decode cX5_numbers 67 = .ok (.iload_n 3, 1) := dk_29 (dk_at dksX5_numbers_2 22 rfl rfl)
theorem dX5_numbers_68 : decode cX5_numbers 68 = .ok (.iastore, 1) := dk_79 (dk_at dksX5_numbers_2 23 rfl rfl)
theorem dX5_numbers_69 : decode cX5_numbers 69 = .ok (.iconst 0, 1) := dk_3 (dk_at dksX5_numbers_3 0 rfl rfl)
theorem dX5_numbers_70 : decode cX5_numbers 70 = .ok (.istore 4, 2) := dk_54 4 (dk_at dksX5_numbers_3 1 rfl rfl)
theorem dX5_numbers_72 : decode cX5_numbers 72 = .ok (.iload 4, 2) := dk_21 4 (dk_at dksX5_numbers_3 3 rfl rfl)
theorem dX5_numbers_74 : decode cX5_numbers 74 = .ok (.iload_n 3, 1) := dk_29 (dk_at dksX5_numbers_3 5 rfl rfl)
theorem dX5_numbers_75 : decode cX5_numbers 75 = .ok (.if_icmp .ge 22, 3) := dk_162 0 22 (dk_at dksX5_numbers_3 6 rfl rfl)
theorem dX5_numbers_78 : decode cX5_numbers 78 = .ok (.aload_n 0, 1) := dk_42 (dk_at dksX5_numbers_3 9 rfl rfl)
theorem dX5_numbers_79 : decode cX5_numbers 79 = .ok (.getfield 79, 3) := dk_180 0 79 (dk_at dksX5_numbers_3 10 rfl rfl)
theorem dX5_numbers_82 : decode cX5_numbers 82 = .ok (.bipush 40, 2) := dk_16 40 (dk_at dksX5_numbers_3 13 rfl rfl)
theorem dX5_numbers_84 : decode cX5_numbers 84 = .ok (.iload_n 1, 1) := dk_27 (dk_at dksX5_numbers_3 15 rfl rfl)
theorem dX5_numbers_85 : decode cX5_numbers 85 = .ok (.imul, 1) := dk_104 (dk_at dksX5_numbers_3 16 rfl rfl)
theorem dX5_numbers_86 : decode cX5_numbers 86 = .ok (.iload 4, 2) := dk_21 4 (dk_at dksX5_numbers_3 17 rfl rfl)
theorem dX5_numbers_88 : decode cX5_numbers 88 = .ok (.iadd, 1) := dk_96 (dk_at dksX5_numbers_3 19 rfl rfl)
theorem dX5_numbers_89 : decode cX5_numbers 89 = .ok (.lconst 0, 1) := dk_9 (dk_at dksX5_numbers_3 20 rfl rfl)
theorem dX5_numbers_90 : decode cX5_numbers 90 = .ok (.lastore, 1) := dk_80 (dk_at dksX5_numbers_3 21 rfl rfl)
theorem dX5_numbers_91 : decode cX5_numbers 91 = .ok (.iinc 4 1, 3) := dk_132 4 1 (dk_at dksX5_numbers_4 0 rfl rfl)
theorem dX5_numbers_94 : decode cX5_numbers 94 = .ok (.goto (-22), 3) := dk_167 255 234 (dk_at dksX5_numbers_4 3 rfl rfl)
theorem dX5_numbers_97 : decode cX5_numbers 97 = .ok (.iconst 0, 1) := dk_3 (dk_at dksX5_numbers_4 6 rfl rfl)
theorem dX5_numbers_98 : decode cX5_numbers 98 = .ok (.ireturn, 1) := dk_172 (dk_at dksX5_numbers_4 7 rfl rfl)
abbrev cX5_write : ByteArray := prog_21_method_111_code
def yX5_write : MethodName := ⟨RX5, "write", "(IIJ)J"⟩
def dkwX5_write_4 : List UInt8 := [16, 40, 27, 104, 28, 96, 47, 173]
abbrev dktX5_write_4 : List UInt8 := dkwX5_write_4 ++ []
def dkwX5_write_3 : List UInt8 := [180, 0, 79, 16, 40, 27, 104, 28, 96, 33, 42, 180, 0, 73, 27, 46, 184, 1, 141, 80, 42, 180, 0, 79]
abbrev dktX5_write_3 : List UInt8 := dkwX5_write_3 ++ dktX5_write_4
def dkwX5_write_2 : List UInt8 := [180, 0, 76, 27, 46, 4, 100, 133, 184, 0, 152, 154, 0, 11, 42, 16, 249, 182, 0, 89, 133, 173, 42]
abbrev dktX5_write_2 : List UInt8 := dkwX5_write_2 ++ dktX5_write_3
def dkwX5_write_1 : List UInt8 := [173, 42, 180, 0, 73, 27, 46, 2, 160, 0, 11, 42, 16, 250, 182, 0, 89, 133, 173, 28, 133, 9, 42]
abbrev dktX5_write_1 : List UInt8 := dkwX5_write_1 ++ dktX5_write_2
def dkwX5_write_0 : List UInt8 := [42, 3, 181, 0, 1, 27, 133, 9, 20, 0, 213, 184, 0, 152, 154, 0, 11, 42, 16, 254, 182, 0, 89, 133]
abbrev dktX5_write_0 : List UInt8 := dkwX5_write_0 ++ dktX5_write_1
theorem dksX5_write_0 : cX5_write.data.toList.drop 0 = dktX5_write_0 := by decide +kernel
theorem dksX5_write_1 : cX5_write.data.toList.drop 24 = dktX5_write_1 := dk_seg dksX5_write_0 24 rfl rfl
theorem dksX5_write_2 : cX5_write.data.toList.drop 47 = dktX5_write_2 := dk_seg dksX5_write_1 23 rfl rfl
theorem dksX5_write_3 : cX5_write.data.toList.drop 70 = dktX5_write_3 := dk_seg dksX5_write_2 23 rfl rfl
theorem dksX5_write_4 : cX5_write.data.toList.drop 94 = dktX5_write_4 := dk_seg dksX5_write_3 24 rfl rfl
theorem dX5_write_0 : decode cX5_write 0 = .ok (.aload_n 0, 1) := dk_42 (dk_at dksX5_write_0 0 rfl rfl)
theorem dX5_write_1 : decode cX5_write 1 = .ok (.iconst 0, 1) := dk_3 (dk_at dksX5_write_0 1 rfl rfl)
theorem dX5_write_2 : decode cX5_write 2 = .ok (.putfield 1, 3) := dk_181 0 1 (dk_at dksX5_write_0 2 rfl rfl)
theorem dX5_write_5 : decode cX5_write 5 = .ok (.iload_n 1, 1) := dk_27 (dk_at dksX5_write_0 5 rfl rfl)
theorem dX5_write_6 : decode cX5_write 6 = .ok (.i2l, 1) := dk_133 (dk_at dksX5_write_0 6 rfl rfl)
theorem dX5_write_7 : decode cX5_write 7 = .ok (.lconst 0, 1) := dk_9 (dk_at dksX5_write_0 7 rfl rfl)
theorem dX5_write_8 : decode cX5_write 8 = .ok (.ldc2_w 213, 3) := dk_20 0 213 (dk_at dksX5_write_0 8 rfl rfl)
theorem dX5_write_11 : decode cX5_write 11 = .ok (.invokestatic 152, 3) := dk_184 0 152 (dk_at dksX5_write_0 11 rfl rfl)
theorem dX5_write_14 : decode cX5_write 14 = .ok (.ifCond .ne 11, 3) := dk_154 0 11 (dk_at dksX5_write_0 14 rfl rfl)
theorem dX5_write_17 : decode cX5_write 17 = .ok (.aload_n 0, 1) := dk_42 (dk_at dksX5_write_0 17 rfl rfl)
theorem dX5_write_18 : decode cX5_write 18 = .ok (.bipush (-2), 2) := dk_16 254 (dk_at dksX5_write_0 18 rfl rfl)
theorem dX5_write_20 : decode cX5_write 20 = .ok (.invokevirtual 89, 3) := dk_182 0 89 (dk_at dksX5_write_0 20 rfl rfl)
theorem dX5_write_23 : decode cX5_write 23 = .ok (.i2l, 1) := dk_133 (dk_at dksX5_write_0 23 rfl rfl)
theorem dX5_write_24 : decode cX5_write 24 = .ok (.lreturn, 1) := dk_173 (dk_at dksX5_write_1 0 rfl rfl)
theorem dX5_write_25 : decode cX5_write 25 = .ok (.aload_n 0, 1) := dk_42 (dk_at dksX5_write_1 1 rfl rfl)
theorem dX5_write_26 : decode cX5_write 26 = .ok (.getfield 73, 3) := dk_180 0 73 (dk_at dksX5_write_1 2 rfl rfl)
theorem dX5_write_29 : decode cX5_write 29 = .ok (.iload_n 1, 1) := dk_27 (dk_at dksX5_write_1 5 rfl rfl)
theorem dX5_write_30 : decode cX5_write 30 = .ok (.iaload, 1) := dk_46 (dk_at dksX5_write_1 6 rfl rfl)
theorem dX5_write_31 : decode cX5_write 31 = .ok (.iconst (-1), 1) := dk_2 (dk_at dksX5_write_1 7 rfl rfl)
theorem dX5_write_32 : decode cX5_write 32 = .ok (.if_icmp .ne 11, 3) := dk_160 0 11 (dk_at dksX5_write_1 8 rfl rfl)
theorem dX5_write_35 : decode cX5_write 35 = .ok (.aload_n 0, 1) := dk_42 (dk_at dksX5_write_1 11 rfl rfl)
theorem dX5_write_36 : decode cX5_write 36 = .ok (.bipush (-6), 2) := dk_16 250 (dk_at dksX5_write_1 12 rfl rfl)
theorem dX5_write_38 : decode cX5_write 38 = .ok (.invokevirtual 89, 3) := dk_182 0 89 (dk_at dksX5_write_1 14 rfl rfl)
theorem dX5_write_41 : decode cX5_write 41 = .ok (.i2l, 1) := dk_133 (dk_at dksX5_write_1 17 rfl rfl)
theorem dX5_write_42 : decode cX5_write 42 = .ok (.lreturn, 1) := dk_173 (dk_at dksX5_write_1 18 rfl rfl)
theorem dX5_write_43 : decode cX5_write 43 = .ok (.iload_n 2, 1) := dk_28 (dk_at dksX5_write_1 19 rfl rfl)
theorem dX5_write_44 : decode cX5_write 44 = .ok (.i2l, 1) := dk_133 (dk_at dksX5_write_1 20 rfl rfl)
theorem dX5_write_45 : decode cX5_write 45 = .ok (.lconst 0, 1) := dk_9 (dk_at dksX5_write_1 21 rfl rfl)
theorem dX5_write_46 : decode cX5_write 46 = .ok (.aload_n 0, 1) := dk_42 (dk_at dksX5_write_1 22 rfl rfl)
theorem dX5_write_47 : decode cX5_write 47 = .ok (.getfield 76, 3) := dk_180 0 76 (dk_at dksX5_write_2 0 rfl rfl)
theorem dX5_write_50 : decode cX5_write 50 = .ok (.iload_n 1, 1) := dk_27 (dk_at dksX5_write_2 3 rfl rfl)
theorem dX5_write_51 : decode cX5_write 51 = .ok (.iaload, 1) := dk_46 (dk_at dksX5_write_2 4 rfl rfl)
theorem dX5_write_52 : decode cX5_write 52 = .ok (.iconst 1, 1) := dk_4 (dk_at dksX5_write_2 5 rfl rfl)
theorem dX5_write_53 : decode cX5_write 53 = .ok (.isub, 1) := dk_100 (dk_at dksX5_write_2 6 rfl rfl)
theorem dX5_write_54 : decode cX5_write 54 = .ok (.i2l, 1) := dk_133 (dk_at dksX5_write_2 7 rfl rfl)
theorem dX5_write_55 : decode cX5_write 55 = .ok (.invokestatic 152, 3) := dk_184 0 152 (dk_at dksX5_write_2 8 rfl rfl)
theorem dX5_write_58 : decode cX5_write 58 = .ok (.ifCond .ne 11, 3) := dk_154 0 11 (dk_at dksX5_write_2 11 rfl rfl)
theorem dX5_write_61 : decode cX5_write 61 = .ok (.aload_n 0, 1) := dk_42 (dk_at dksX5_write_2 14 rfl rfl)
theorem dX5_write_62 : decode cX5_write 62 = .ok (.bipush (-7), 2) := dk_16 249 (dk_at dksX5_write_2 15 rfl rfl)
theorem dX5_write_64 : decode cX5_write 64 = .ok (.invokevirtual 89, 3) := dk_182 0 89 (dk_at dksX5_write_2 17 rfl rfl)
theorem dX5_write_67 : decode cX5_write 67 = .ok (.i2l, 1) := dk_133 (dk_at dksX5_write_2 20 rfl rfl)
theorem dX5_write_68 : decode cX5_write 68 = .ok (.lreturn, 1) := dk_173 (dk_at dksX5_write_2 21 rfl rfl)
theorem dX5_write_69 : decode cX5_write 69 = .ok (.aload_n 0, 1) := dk_42 (dk_at dksX5_write_2 22 rfl rfl)
theorem dX5_write_70 : decode cX5_write 70 = .ok (.getfield 79, 3) := dk_180 0 79 (dk_at dksX5_write_3 0 rfl rfl)
theorem dX5_write_73 : decode cX5_write 73 = .ok (.bipush 40, 2) := dk_16 40 (dk_at dksX5_write_3 3 rfl rfl)
theorem dX5_write_75 : decode cX5_write 75 = .ok (.iload_n 1, 1) := dk_27 (dk_at dksX5_write_3 5 rfl rfl)
theorem dX5_write_76 : decode cX5_write 76 = .ok (.imul, 1) := dk_104 (dk_at dksX5_write_3 6 rfl rfl)
theorem dX5_write_77 : decode cX5_write 77 = .ok (.iload_n 2, 1) := dk_28 (dk_at dksX5_write_3 7 rfl rfl)
theorem dX5_write_78 : decode cX5_write 78 = .ok (.iadd, 1) := dk_96 (dk_at dksX5_write_3 8 rfl rfl)
theorem dX5_write_79 : decode cX5_write 79 = .ok (.lload_n 3, 1) := dk_33 (dk_at dksX5_write_3 9 rfl rfl)
theorem dX5_write_80 : decode cX5_write 80 = .ok (.aload_n 0, 1) := dk_42 (dk_at dksX5_write_3 10 rfl rfl)
theorem dX5_write_81 : decode cX5_write 81 = .ok (.getfield 73, 3) := dk_180 0 73 (dk_at dksX5_write_3 11 rfl rfl)
theorem dX5_write_84 : decode cX5_write 84 = .ok (.iload_n 1, 1) := dk_27 (dk_at dksX5_write_3 14 rfl rfl)
theorem dX5_write_85 : decode cX5_write 85 = .ok (.iaload, 1) := dk_46 (dk_at dksX5_write_3 15 rfl rfl)
theorem dX5_write_86 : decode cX5_write 86 = .ok (.invokestatic 397, 3) := dk_184 1 141 (dk_at dksX5_write_3 16 rfl rfl)
theorem dX5_write_89 : decode cX5_write 89 = .ok (.lastore, 1) := dk_80 (dk_at dksX5_write_3 19 rfl rfl)
theorem dX5_write_90 : decode cX5_write 90 = .ok (.aload_n 0, 1) := dk_42 (dk_at dksX5_write_3 20 rfl rfl)
theorem dX5_write_91 : decode cX5_write 91 = .ok (.getfield 79, 3) := dk_180 0 79 (dk_at dksX5_write_3 21 rfl rfl)
theorem dX5_write_94 : decode cX5_write 94 = .ok (.bipush 40, 2) := dk_16 40 (dk_at dksX5_write_4 0 rfl rfl)
theorem dX5_write_96 : decode cX5_write 96 = .ok (.iload_n 1, 1) := dk_27 (dk_at dksX5_write_4 2 rfl rfl)
theorem dX5_write_97 : decode cX5_write 97 = .ok (.imul, 1) := dk_104 (dk_at dksX5_write_4 3 rfl rfl)
theorem dX5_write_98 : decode cX5_write 98 = .ok (.iload_n 2, 1) := dk_28 (dk_at dksX5_write_4 4 rfl rfl)
theorem dX5_write_99 : decode cX5_write 99 = .ok (.iadd, 1) := dk_96 (dk_at dksX5_write_4 5 rfl rfl)
theorem dX5_write_100 : decode cX5_write 100 = .ok (.laload, 1) := dk_47 (dk_at dksX5_write_4 6 rfl rfl)
theorem dX5_write_101 : decode cX5_write 101 = .ok (.lreturn, 1) := dk_173 (dk_at dksX5_write_4 7 rfl rfl)
abbrev cX5_cut : ByteArray := prog_21_method_109_code
def yX5_cut : MethodName := ⟨RX5, "cut", "(JI)J"⟩
def dkwX5_cut_1 : List UInt8 := [5, 160, 0, 9, 30, 136, 133, 167, 0, 4, 30, 173]
abbrev dktX5_cut_1 : List UInt8 := dkwX5_cut_1 ++ []
def dkwX5_cut_0 : List UInt8 := [28, 154, 0, 10, 30, 136, 145, 133, 167, 0, 27, 28, 4, 160, 0, 10, 30, 136, 147, 133, 167, 0, 15, 28]
abbrev dktX5_cut_0 : List UInt8 := dkwX5_cut_0 ++ dktX5_cut_1
theorem dksX5_cut_0 : cX5_cut.data.toList.drop 0 = dktX5_cut_0 := by decide +kernel
theorem dksX5_cut_1 : cX5_cut.data.toList.drop 24 = dktX5_cut_1 := dk_seg dksX5_cut_0 24 rfl rfl
theorem dX5_cut_0 : decode cX5_cut 0 = .ok (.iload_n 2, 1) := dk_28 (dk_at dksX5_cut_0 0 rfl rfl)
theorem dX5_cut_1 : decode cX5_cut 1 = .ok (.ifCond .ne 10, 3) := dk_154 0 10 (dk_at dksX5_cut_0 1 rfl rfl)
theorem dX5_cut_4 : decode cX5_cut 4 = .ok (.lload_n 0, 1) := dk_30 (dk_at dksX5_cut_0 4 rfl rfl)
theorem dX5_cut_5 : decode cX5_cut 5 = .ok (.l2i, 1) := dk_136 (dk_at dksX5_cut_0 5 rfl rfl)
theorem dX5_cut_6 : decode cX5_cut 6 = .ok (.i2b, 1) := dk_145 (dk_at dksX5_cut_0 6 rfl rfl)
theorem dX5_cut_7 : decode cX5_cut 7 = .ok (.i2l, 1) := dk_133 (dk_at dksX5_cut_0 7 rfl rfl)
theorem dX5_cut_8 : decode cX5_cut 8 = .ok (.goto 27, 3) := dk_167 0 27 (dk_at dksX5_cut_0 8 rfl rfl)
theorem dX5_cut_11 : decode cX5_cut 11 = .ok (.iload_n 2, 1) := dk_28 (dk_at dksX5_cut_0 11 rfl rfl)
theorem dX5_cut_12 : decode cX5_cut 12 = .ok (.iconst 1, 1) := dk_4 (dk_at dksX5_cut_0 12 rfl rfl)
theorem dX5_cut_13 : decode cX5_cut 13 = .ok (.if_icmp .ne 10, 3) := dk_160 0 10 (dk_at dksX5_cut_0 13 rfl rfl)
theorem dX5_cut_16 : decode cX5_cut 16 = .ok (.lload_n 0, 1) := dk_30 (dk_at dksX5_cut_0 16 rfl rfl)
theorem dX5_cut_17 : decode cX5_cut 17 = .ok (.l2i, 1) := dk_136 (dk_at dksX5_cut_0 17 rfl rfl)
theorem dX5_cut_18 : decode cX5_cut 18 = .ok (.i2s, 1) := dk_147 (dk_at dksX5_cut_0 18 rfl rfl)
theorem dX5_cut_19 : decode cX5_cut 19 = .ok (.i2l, 1) := dk_133 (dk_at dksX5_cut_0 19 rfl rfl)
theorem dX5_cut_20 : decode cX5_cut 20 = .ok (.goto 15, 3) := dk_167 0 15 (dk_at dksX5_cut_0 20 rfl rfl)
theorem dX5_cut_23 : decode cX5_cut 23 = .ok (.iload_n 2, 1) := dk_28 (dk_at dksX5_cut_0 23 rfl rfl)
theorem dX5_cut_24 : decode cX5_cut 24 = .ok (.iconst 2, 1) := dk_5 (dk_at dksX5_cut_1 0 rfl rfl)
theorem dX5_cut_25 : decode cX5_cut 25 = .ok (.if_icmp .ne 9, 3) := dk_160 0 9 (dk_at dksX5_cut_1 1 rfl rfl)
theorem dX5_cut_28 : decode cX5_cut 28 = .ok (.lload_n 0, 1) := dk_30 (dk_at dksX5_cut_1 4 rfl rfl)
theorem dX5_cut_29 : decode cX5_cut 29 = .ok (.l2i, 1) := dk_136 (dk_at dksX5_cut_1 5 rfl rfl)
theorem dX5_cut_30 : decode cX5_cut 30 = .ok (.i2l, 1) := dk_133 (dk_at dksX5_cut_1 6 rfl rfl)
theorem dX5_cut_31 : decode cX5_cut 31 = .ok (.goto 4, 3) := dk_167 0 4 (dk_at dksX5_cut_1 7 rfl rfl)
theorem dX5_cut_34 : decode cX5_cut 34 = .ok (.lload_n 0, 1) := dk_30 (dk_at dksX5_cut_1 10 rfl rfl)
theorem dX5_cut_35 : decode cX5_cut 35 = .ok (.lreturn, 1) := dk_173 (dk_at dksX5_cut_1 11 rfl rfl)
abbrev cX5_image : ByteArray := prog_21_method_112_code
def yX5_image : MethodName := ⟨RX5, "image", "(I)I"⟩
def dkwX5_image_2 : List UInt8 := [28, 46, 79, 132, 2, 1, 167, 255, 226, 42, 180, 0, 20, 27, 4, 84, 3, 172]
abbrev dktX5_image_2 : List UInt8 := dkwX5_image_2 ++ []
def dkwX5_image_1 : List UInt8 := [28, 17, 2, 66, 162, 0, 29, 42, 180, 0, 17, 17, 2, 66, 27, 4, 96, 104, 28, 96, 42, 180, 0, 17]
abbrev dktX5_image_1 : List UInt8 := dkwX5_image_1 ++ dktX5_image_2
def dkwX5_image_0 : List UInt8 := [42, 3, 181, 0, 1, 27, 133, 9, 10, 184, 0, 152, 154, 0, 10, 42, 16, 254, 182, 0, 89, 172, 3, 61]
abbrev dktX5_image_0 : List UInt8 := dkwX5_image_0 ++ dktX5_image_1
theorem dksX5_image_0 : cX5_image.data.toList.drop 0 = dktX5_image_0 := by decide +kernel
theorem dksX5_image_1 : cX5_image.data.toList.drop 24 = dktX5_image_1 := dk_seg dksX5_image_0 24 rfl rfl
theorem dksX5_image_2 : cX5_image.data.toList.drop 48 = dktX5_image_2 := dk_seg dksX5_image_1 24 rfl rfl
theorem dX5_image_0 : decode cX5_image 0 = .ok (.aload_n 0, 1) := dk_42 (dk_at dksX5_image_0 0 rfl rfl)
theorem dX5_image_1 : decode cX5_image 1 = .ok (.iconst 0, 1) := dk_3 (dk_at dksX5_image_0 1 rfl rfl)
theorem dX5_image_2 : decode cX5_image 2 = .ok (.putfield 1, 3) := dk_181 0 1 (dk_at dksX5_image_0 2 rfl rfl)
theorem dX5_image_5 : decode cX5_image 5 = .ok (.iload_n 1, 1) := dk_27 (dk_at dksX5_image_0 5 rfl rfl)
theorem dX5_image_6 : decode cX5_image 6 = .ok (.i2l, 1) := dk_133 (dk_at dksX5_image_0 6 rfl rfl)
theorem dX5_image_7 : decode cX5_image 7 = .ok (.lconst 0, 1) := dk_9 (dk_at dksX5_image_0 7 rfl rfl)
theorem dX5_image_8 : decode cX5_image 8 = .ok (.lconst 1, 1) := dk_10 (dk_at dksX5_image_0 8 rfl rfl)
theorem dX5_image_9 : decode cX5_image 9 = .ok (.invokestatic 152, 3) := dk_184 0 152 (dk_at dksX5_image_0 9 rfl rfl)
theorem dX5_image_12 : decode cX5_image 12 = .ok (.ifCond .ne 10, 3) := dk_154 0 10 (dk_at dksX5_image_0 12 rfl rfl)
theorem dX5_image_15 : decode cX5_image 15 = .ok (.aload_n 0, 1) := dk_42 (dk_at dksX5_image_0 15 rfl rfl)
theorem dX5_image_16 : decode cX5_image 16 = .ok (.bipush (-2), 2) := dk_16 254 (dk_at dksX5_image_0 16 rfl rfl)
theorem dX5_image_18 : decode cX5_image 18 = .ok (.invokevirtual 89, 3) := dk_182 0 89 (dk_at dksX5_image_0 18 rfl rfl)
theorem dX5_image_21 : decode cX5_image 21 = .ok (.ireturn, 1) := dk_172 (dk_at dksX5_image_0 21 rfl rfl)
theorem dX5_image_22 : decode cX5_image 22 = .ok (.iconst 0, 1) := dk_3 (dk_at dksX5_image_0 22 rfl rfl)
theorem dX5_image_23 : decode cX5_image 23 = .ok (.istore_n 2, 1) := dk_61 (dk_at dksX5_image_0 23 rfl rfl)
theorem dX5_image_24 : decode cX5_image 24 = .ok (.iload_n 2, 1) := dk_28 (dk_at dksX5_image_1 0 rfl rfl)
theorem dX5_image_25 : decode cX5_image 25 = .ok (.sipush 578, 3) := dk_17 2 66 (dk_at dksX5_image_1 1 rfl rfl)
theorem dX5_image_28 : decode cX5_image 28 = .ok (.if_icmp .ge 29, 3) := dk_162 0 29 (dk_at dksX5_image_1 4 rfl rfl)
theorem dX5_image_31 : decode cX5_image 31 = .ok (.aload_n 0, 1) := dk_42 (dk_at dksX5_image_1 7 rfl rfl)
theorem dX5_image_32 : decode cX5_image 32 = .ok (.getfield 17, 3) := dk_180 0 17 (dk_at dksX5_image_1 8 rfl rfl)
theorem dX5_image_35 : decode cX5_image 35 = .ok (.sipush 578, 3) := dk_17 2 66 (dk_at dksX5_image_1 11 rfl rfl)
theorem dX5_image_38 : decode cX5_image 38 = .ok (.iload_n 1, 1) := dk_27 (dk_at dksX5_image_1 14 rfl rfl)
theorem dX5_image_39 : decode cX5_image 39 = .ok (.iconst 1, 1) := dk_4 (dk_at dksX5_image_1 15 rfl rfl)
theorem dX5_image_40 : decode cX5_image 40 = .ok (.iadd, 1) := dk_96 (dk_at dksX5_image_1 16 rfl rfl)
theorem dX5_image_41 : decode cX5_image 41 = .ok (.imul, 1) := dk_104 (dk_at dksX5_image_1 17 rfl rfl)
theorem dX5_image_42 : decode cX5_image 42 = .ok (.iload_n 2, 1) := dk_28 (dk_at dksX5_image_1 18 rfl rfl)
theorem dX5_image_43 : decode cX5_image 43 = .ok (.iadd, 1) := dk_96 (dk_at dksX5_image_1 19 rfl rfl)
theorem dX5_image_44 : decode cX5_image 44 = .ok (.aload_n 0, 1) := dk_42 (dk_at dksX5_image_1 20 rfl rfl)
theorem dX5_image_45 : decode cX5_image 45 = .ok (.getfield 17, 3) := dk_180 0 17 (dk_at dksX5_image_1 21 rfl rfl)
theorem dX5_image_48 : decode cX5_image 48 = .ok (.iload_n 2, 1) := dk_28 (dk_at dksX5_image_2 0 rfl rfl)
theorem dX5_image_49 : decode cX5_image 49 = .ok (.iaload, 1) := dk_46 (dk_at dksX5_image_2 1 rfl rfl)
theorem dX5_image_50 : decode cX5_image 50 = .ok (.iastore, 1) := dk_79 (dk_at dksX5_image_2 2 rfl rfl)
theorem dX5_image_51 : decode cX5_image 51 = .ok (.iinc 2 1, 3) := dk_132 2 1 (dk_at dksX5_image_2 3 rfl rfl)
theorem dX5_image_54 : decode cX5_image 54 = .ok (.goto (-30), 3) := dk_167 255 226 (dk_at dksX5_image_2 6 rfl rfl)
theorem dX5_image_57 : decode cX5_image 57 = .ok (.aload_n 0, 1) := dk_42 (dk_at dksX5_image_2 9 rfl rfl)
theorem dX5_image_58 : decode cX5_image 58 = .ok (.getfield 20, 3) := dk_180 0 20 (dk_at dksX5_image_2 10 rfl rfl)
theorem dX5_image_61 : decode cX5_image 61 = .ok (.iload_n 1, 1) := dk_27 (dk_at dksX5_image_2 13 rfl rfl)
theorem dX5_image_62 : decode cX5_image 62 = .ok (.iconst 1, 1) := dk_4 (dk_at dksX5_image_2 14 rfl rfl)
theorem dX5_image_63 : decode cX5_image 63 = .ok (.bastore, 1) := dk_84 (dk_at dksX5_image_2 15 rfl rfl)
theorem dX5_image_64 : decode cX5_image 64 = .ok (.iconst 0, 1) := dk_3 (dk_at dksX5_image_2 16 rfl rfl)
theorem dX5_image_65 : decode cX5_image 65 = .ok (.ireturn, 1) := dk_172 (dk_at dksX5_image_2 17 rfl rfl)
abbrev cX5_restore : ByteArray := prog_21_method_113_code
def yX5_restore : MethodName := ⟨RX5, "restore", "(I)I"⟩
def dkwX5_restore_3 : List UInt8 := [167, 255, 226, 3, 172]
abbrev dktX5_restore_3 : List UInt8 := dkwX5_restore_3 ++ []
def dkwX5_restore_2 : List UInt8 := [42, 180, 0, 17, 28, 42, 180, 0, 17, 17, 2, 66, 27, 4, 96, 104, 28, 96, 46, 79, 132, 2, 1]
abbrev dktX5_restore_2 : List UInt8 := dkwX5_restore_2 ++ dktX5_restore_3
def dkwX5_restore_1 : List UInt8 := [180, 0, 20, 27, 51, 154, 0, 10, 42, 16, 251, 182, 0, 89, 172, 3, 61, 28, 17, 2, 66, 162, 0, 29]
abbrev dktX5_restore_1 : List UInt8 := dkwX5_restore_1 ++ dktX5_restore_2
def dkwX5_restore_0 : List UInt8 := [42, 3, 181, 0, 1, 27, 133, 9, 10, 184, 0, 152, 154, 0, 10, 42, 16, 254, 182, 0, 89, 172, 42]
abbrev dktX5_restore_0 : List UInt8 := dkwX5_restore_0 ++ dktX5_restore_1
theorem dksX5_restore_0 : cX5_restore.data.toList.drop 0 = dktX5_restore_0 := by decide +kernel
theorem dksX5_restore_1 : cX5_restore.data.toList.drop 23 = dktX5_restore_1 := dk_seg dksX5_restore_0 23 rfl rfl
theorem dksX5_restore_2 : cX5_restore.data.toList.drop 47 = dktX5_restore_2 := dk_seg dksX5_restore_1 24 rfl rfl
theorem dksX5_restore_3 : cX5_restore.data.toList.drop 70 = dktX5_restore_3 := dk_seg dksX5_restore_2 23 rfl rfl
theorem dX5_restore_0 : decode cX5_restore 0 = .ok (.aload_n 0, 1) := dk_42 (dk_at dksX5_restore_0 0 rfl rfl)
theorem dX5_restore_1 : decode cX5_restore 1 = .ok (.iconst 0, 1) := dk_3 (dk_at dksX5_restore_0 1 rfl rfl)
theorem dX5_restore_2 : decode cX5_restore 2 = .ok (.putfield 1, 3) := dk_181 0 1 (dk_at dksX5_restore_0 2 rfl rfl)
theorem dX5_restore_5 : decode cX5_restore 5 = .ok (.iload_n 1, 1) := dk_27 (dk_at dksX5_restore_0 5 rfl rfl)
theorem dX5_restore_6 : decode cX5_restore 6 = .ok (.i2l, 1) := dk_133 (dk_at dksX5_restore_0 6 rfl rfl)
theorem dX5_restore_7 : decode cX5_restore 7 = .ok (.lconst 0, 1) := dk_9 (dk_at dksX5_restore_0 7 rfl rfl)
theorem dX5_restore_8 : decode cX5_restore 8 = .ok (.lconst 1, 1) := dk_10 (dk_at dksX5_restore_0 8 rfl rfl)
theorem dX5_restore_9 : decode cX5_restore 9 = .ok (.invokestatic 152, 3) := dk_184 0 152 (dk_at dksX5_restore_0 9 rfl rfl)
theorem dX5_restore_12 : decode cX5_restore 12 = .ok (.ifCond .ne 10, 3) := dk_154 0 10 (dk_at dksX5_restore_0 12 rfl rfl)
theorem dX5_restore_15 : decode cX5_restore 15 = .ok (.aload_n 0, 1) := dk_42 (dk_at dksX5_restore_0 15 rfl rfl)
theorem dX5_restore_16 : decode cX5_restore 16 = .ok (.bipush (-2), 2) := dk_16 254 (dk_at dksX5_restore_0 16 rfl rfl)
theorem dX5_restore_18 : decode cX5_restore 18 = .ok (.invokevirtual 89, 3) := dk_182 0 89 (dk_at dksX5_restore_0 18 rfl rfl)
theorem dX5_restore_21 : decode cX5_restore 21 = .ok (.ireturn, 1) := dk_172 (dk_at dksX5_restore_0 21 rfl rfl)
theorem dX5_restore_22 : decode cX5_restore 22 = .ok (.aload_n 0, 1) := dk_42 (dk_at dksX5_restore_0 22 rfl rfl)
theorem dX5_restore_23 : decode cX5_restore 23 = .ok (.getfield 20, 3) := dk_180 0 20 (dk_at dksX5_restore_1 0 rfl rfl)
theorem dX5_restore_26 : decode cX5_restore 26 = .ok (.iload_n 1, 1) := dk_27 (dk_at dksX5_restore_1 3 rfl rfl)
theorem dX5_restore_27 : decode cX5_restore 27 = .ok (.baload, 1) := dk_51 (dk_at dksX5_restore_1 4 rfl rfl)
theorem dX5_restore_28 : decode cX5_restore 28 = .ok (.ifCond .ne 10, 3) := dk_154 0 10 (dk_at dksX5_restore_1 5 rfl rfl)
theorem dX5_restore_31 : decode cX5_restore 31 = .ok (.aload_n 0, 1) := dk_42 (dk_at dksX5_restore_1 8 rfl rfl)
theorem dX5_restore_32 : decode cX5_restore 32 = .ok (.bipush (-5), 2) := dk_16 251 (dk_at dksX5_restore_1 9 rfl rfl)
theorem dX5_restore_34 : decode cX5_restore 34 = .ok (.invokevirtual 89, 3) := dk_182 0 89 (dk_at dksX5_restore_1 11 rfl rfl)
theorem dX5_restore_37 : decode cX5_restore 37 = .ok (.ireturn, 1) := dk_172 (dk_at dksX5_restore_1 14 rfl rfl)
theorem dX5_restore_38 : decode cX5_restore 38 = .ok (.iconst 0, 1) := dk_3 (dk_at dksX5_restore_1 15 rfl rfl)
theorem dX5_restore_39 : decode cX5_restore 39 = .ok (.istore_n 2, 1) := dk_61 (dk_at dksX5_restore_1 16 rfl rfl)
theorem dX5_restore_40 : decode cX5_restore 40 = .ok (.iload_n 2, 1) := dk_28 (dk_at dksX5_restore_1 17 rfl rfl)
theorem dX5_restore_41 : decode cX5_restore 41 = .ok (.sipush 578, 3) := dk_17 2 66 (dk_at dksX5_restore_1 18 rfl rfl)
theorem dX5_restore_44 : decode cX5_restore 44 = .ok (.if_icmp .ge 29, 3) := dk_162 0 29 (dk_at dksX5_restore_1 21 rfl rfl)
theorem dX5_restore_47 : decode cX5_restore 47 = .ok (.aload_n 0, 1) := dk_42 (dk_at dksX5_restore_2 0 rfl rfl)
theorem dX5_restore_48 : decode cX5_restore 48 = .ok (.getfield 17, 3) := dk_180 0 17 (dk_at dksX5_restore_2 1 rfl rfl)
theorem dX5_restore_51 : decode cX5_restore 51 = .ok (.iload_n 2, 1) := dk_28 (dk_at dksX5_restore_2 4 rfl rfl)
theorem dX5_restore_52 : decode cX5_restore 52 = .ok (.aload_n 0, 1) := dk_42 (dk_at dksX5_restore_2 5 rfl rfl)
theorem dX5_restore_53 : decode cX5_restore 53 = .ok (.getfield 17, 3) := dk_180 0 17 (dk_at dksX5_restore_2 6 rfl rfl)
theorem dX5_restore_56 : decode cX5_restore 56 = .ok (.sipush 578, 3) := dk_17 2 66 (dk_at dksX5_restore_2 9 rfl rfl)
theorem dX5_restore_59 : decode cX5_restore 59 = .ok (.iload_n 1, 1) := dk_27 (dk_at dksX5_restore_2 12 rfl rfl)
theorem dX5_restore_60 : decode cX5_restore 60 = .ok (.iconst 1, 1) := dk_4 (dk_at dksX5_restore_2 13 rfl rfl)
theorem dX5_restore_61 : decode cX5_restore 61 = .ok (.iadd, 1) := dk_96 (dk_at dksX5_restore_2 14 rfl rfl)
theorem dX5_restore_62 : decode cX5_restore 62 = .ok (.imul, 1) := dk_104 (dk_at dksX5_restore_2 15 rfl rfl)
theorem dX5_restore_63 : decode cX5_restore 63 = .ok (.iload_n 2, 1) := dk_28 (dk_at dksX5_restore_2 16 rfl rfl)
theorem dX5_restore_64 : decode cX5_restore 64 = .ok (.iadd, 1) := dk_96 (dk_at dksX5_restore_2 17 rfl rfl)
theorem dX5_restore_65 : decode cX5_restore 65 = .ok (.iaload, 1) := dk_46 (dk_at dksX5_restore_2 18 rfl rfl)
theorem dX5_restore_66 : decode cX5_restore 66 = .ok (.iastore, 1) := dk_79 (dk_at dksX5_restore_2 19 rfl rfl)
theorem dX5_restore_67 : decode cX5_restore 67 = .ok (.iinc 2 1, 3) := dk_132 2 1 (dk_at dksX5_restore_2 20 rfl rfl)
theorem dX5_restore_70 : decode cX5_restore 70 = .ok (.goto (-30), 3) := dk_167 255 226 (dk_at dksX5_restore_3 0 rfl rfl)
theorem dX5_restore_73 : decode cX5_restore 73 = .ok (.iconst 0, 1) := dk_3 (dk_at dksX5_restore_3 3 rfl rfl)
theorem dX5_restore_74 : decode cX5_restore 74 = .ok (.ireturn, 1) := dk_172 (dk_at dksX5_restore_3 4 rfl rfl)
abbrev cX5_status : ByteArray := prog_21_method_114_code
def yX5_status : MethodName := ⟨RX5, "status", "(I)I"⟩
def dkwX5_status_1 : List UInt8 := [167, 0, 4, 2, 172]
abbrev dktX5_status_1 : List UInt8 := dkwX5_status_1 ++ []
def dkwX5_status_0 : List UInt8 := [42, 3, 181, 0, 1, 27, 133, 9, 20, 0, 172, 184, 0, 152, 153, 0, 12, 42, 180, 0, 7, 27, 46]
abbrev dktX5_status_0 : List UInt8 := dkwX5_status_0 ++ dktX5_status_1
theorem dksX5_status_0 : cX5_status.data.toList.drop 0 = dktX5_status_0 := by decide +kernel
theorem dksX5_status_1 : cX5_status.data.toList.drop 23 = dktX5_status_1 := dk_seg dksX5_status_0 23 rfl rfl
theorem dX5_status_0 : decode cX5_status 0 = .ok (.aload_n 0, 1) := dk_42 (dk_at dksX5_status_0 0 rfl rfl)
theorem dX5_status_1 : decode cX5_status 1 = .ok (.iconst 0, 1) := dk_3 (dk_at dksX5_status_0 1 rfl rfl)
theorem dX5_status_2 : decode cX5_status 2 = .ok (.putfield 1, 3) := dk_181 0 1 (dk_at dksX5_status_0 2 rfl rfl)
theorem dX5_status_5 : decode cX5_status 5 = .ok (.iload_n 1, 1) := dk_27 (dk_at dksX5_status_0 5 rfl rfl)
theorem dX5_status_6 : decode cX5_status 6 = .ok (.i2l, 1) := dk_133 (dk_at dksX5_status_0 6 rfl rfl)
theorem dX5_status_7 : decode cX5_status 7 = .ok (.lconst 0, 1) := dk_9 (dk_at dksX5_status_0 7 rfl rfl)
theorem dX5_status_8 : decode cX5_status 8 = .ok (.ldc2_w 172, 3) := dk_20 0 172 (dk_at dksX5_status_0 8 rfl rfl)
theorem dX5_status_11 : decode cX5_status 11 = .ok (.invokestatic 152, 3) := dk_184 0 152 (dk_at dksX5_status_0 11 rfl rfl)
theorem dX5_status_14 : decode cX5_status 14 = .ok (.ifCond .eq 12, 3) := dk_153 0 12 (dk_at dksX5_status_0 14 rfl rfl)
theorem dX5_status_17 : decode cX5_status 17 = .ok (.aload_n 0, 1) := dk_42 (dk_at dksX5_status_0 17 rfl rfl)
theorem dX5_status_18 : decode cX5_status 18 = .ok (.getfield 7, 3) := dk_180 0 7 (dk_at dksX5_status_0 18 rfl rfl)
theorem dX5_status_21 : decode cX5_status 21 = .ok (.iload_n 1, 1) := dk_27 (dk_at dksX5_status_0 21 rfl rfl)
theorem dX5_status_22 : decode cX5_status 22 = .ok (.iaload, 1) := dk_46 (dk_at dksX5_status_0 22 rfl rfl)
theorem dX5_status_23 : decode cX5_status 23 = .ok (.goto 4, 3) := dk_167 0 4 (dk_at dksX5_status_1 0 rfl rfl)
theorem dX5_status_26 : decode cX5_status 26 = .ok (.iconst (-1), 1) := dk_2 (dk_at dksX5_status_1 3 rfl rfl)
theorem dX5_status_27 : decode cX5_status 27 = .ok (.ireturn, 1) := dk_172 (dk_at dksX5_status_1 4 rfl rfl)
abbrev cX5_count : ByteArray := prog_21_method_115_code
def yX5_count : MethodName := ⟨RX5, "count", "(I)I"⟩
def dkwX5_count_5 : List UInt8 := [42, 180, 0, 86, 172, 42, 180, 0, 17, 16, 39, 46, 172, 2, 172]
abbrev dktX5_count_5 : List UInt8 := dkwX5_count_5 ++ []
def dkwX5_count_4 : List UInt8 := [180, 0, 17, 16, 38, 46, 172, 42, 180, 0, 17, 16, 40, 46, 172, 42, 180, 0, 17, 17, 1, 221, 46, 172]
abbrev dktX5_count_4 : List UInt8 := dkwX5_count_4 ++ dktX5_count_5
def dkwX5_count_3 : List UInt8 := [180, 0, 17, 16, 35, 46, 172, 42, 180, 0, 17, 16, 36, 46, 172, 42, 180, 0, 17, 16, 37, 46, 172, 42]
abbrev dktX5_count_3 : List UInt8 := dkwX5_count_3 ++ dktX5_count_4
def dkwX5_count_2 : List UInt8 := [42, 180, 0, 17, 3, 46, 172, 42, 180, 0, 17, 4, 46, 172, 42, 180, 0, 17, 16, 34, 46, 172, 42]
abbrev dktX5_count_2 : List UInt8 := dkwX5_count_2 ++ dktX5_count_3
def dkwX5_count_1 : List UInt8 := [170, 0, 0, 0, 0, 142, 0, 0, 0, 0, 0, 0, 0, 10, 0, 0, 0, 58, 0, 0, 0, 65, 0, 0, 0, 72, 0, 0, 0, 80, 0, 0, 0, 88, 0, 0, 0, 96, 0, 0, 0, 104, 0, 0, 0, 112, 0, 0, 0, 120, 0, 0, 0, 129, 0, 0, 0, 134]
abbrev dktX5_count_1 : List UInt8 := dkwX5_count_1 ++ dktX5_count_2
def dkwX5_count_0 : List UInt8 := [42, 3, 181, 0, 1, 27]
abbrev dktX5_count_0 : List UInt8 := dkwX5_count_0 ++ dktX5_count_1
theorem dksX5_count_0 : cX5_count.data.toList.drop 0 = dktX5_count_0 := by decide +kernel
theorem dksX5_count_1 : cX5_count.data.toList.drop 6 = dktX5_count_1 := dk_seg dksX5_count_0 6 rfl rfl
theorem dksX5_count_2 : cX5_count.data.toList.drop 64 = dktX5_count_2 := dk_seg dksX5_count_1 58 rfl rfl
theorem dksX5_count_3 : cX5_count.data.toList.drop 87 = dktX5_count_3 := dk_seg dksX5_count_2 23 rfl rfl
theorem dksX5_count_4 : cX5_count.data.toList.drop 111 = dktX5_count_4 := dk_seg dksX5_count_3 24 rfl rfl
theorem dksX5_count_5 : cX5_count.data.toList.drop 135 = dktX5_count_5 := dk_seg dksX5_count_4 24 rfl rfl
theorem dX5_count_0 : decode cX5_count 0 = .ok (.aload_n 0, 1) := dk_42 (dk_at dksX5_count_0 0 rfl rfl)
theorem dX5_count_1 : decode cX5_count 1 = .ok (.iconst 0, 1) := dk_3 (dk_at dksX5_count_0 1 rfl rfl)
theorem dX5_count_2 : decode cX5_count 2 = .ok (.putfield 1, 3) := dk_181 0 1 (dk_at dksX5_count_0 2 rfl rfl)
theorem dX5_count_5 : decode cX5_count 5 = .ok (.iload_n 1, 1) := dk_27 (dk_at dksX5_count_0 5 rfl rfl)
theorem dX5_count_6 : decode cX5_count 6 = .ok (.tableswitch 142 0 10 #[58, 65, 72, 80, 88, 96, 104, 112, 120, 129, 134], 58) := by decide +kernel
theorem dX5_count_64 : decode cX5_count 64 = .ok (.aload_n 0, 1) := dk_42 (dk_at dksX5_count_2 0 rfl rfl)
theorem dX5_count_65 : decode cX5_count 65 = .ok (.getfield 17, 3) := dk_180 0 17 (dk_at dksX5_count_2 1 rfl rfl)
theorem dX5_count_68 : decode cX5_count 68 = .ok (.iconst 0, 1) := dk_3 (dk_at dksX5_count_2 4 rfl rfl)
theorem dX5_count_69 : decode cX5_count 69 = .ok (.iaload, 1) := dk_46 (dk_at dksX5_count_2 5 rfl rfl)
theorem dX5_count_70 : decode cX5_count 70 = .ok (.ireturn, 1) := dk_172 (dk_at dksX5_count_2 6 rfl rfl)
theorem dX5_count_71 : decode cX5_count 71 = .ok (.aload_n 0, 1) := dk_42 (dk_at dksX5_count_2 7 rfl rfl)
theorem dX5_count_72 : decode cX5_count 72 = .ok (.getfield 17, 3) := dk_180 0 17 (dk_at dksX5_count_2 8 rfl rfl)
theorem dX5_count_75 : decode cX5_count 75 = .ok (.iconst 1, 1) := dk_4 (dk_at dksX5_count_2 11 rfl rfl)
theorem dX5_count_76 : decode cX5_count 76 = .ok (.iaload, 1) := dk_46 (dk_at dksX5_count_2 12 rfl rfl)
theorem dX5_count_77 : decode cX5_count 77 = .ok (.ireturn, 1) := dk_172 (dk_at dksX5_count_2 13 rfl rfl)
theorem dX5_count_78 : decode cX5_count 78 = .ok (.aload_n 0, 1) := dk_42 (dk_at dksX5_count_2 14 rfl rfl)
theorem dX5_count_79 : decode cX5_count 79 = .ok (.getfield 17, 3) := dk_180 0 17 (dk_at dksX5_count_2 15 rfl rfl)
theorem dX5_count_82 : decode cX5_count 82 = .ok (.bipush 34, 2) := dk_16 34 (dk_at dksX5_count_2 18 rfl rfl)
theorem dX5_count_84 : decode cX5_count 84 = .ok (.iaload, 1) := dk_46 (dk_at dksX5_count_2 20 rfl rfl)
theorem dX5_count_85 : decode cX5_count 85 = .ok (.ireturn, 1) := dk_172 (dk_at dksX5_count_2 21 rfl rfl)
theorem dX5_count_86 : decode cX5_count 86 = .ok (.aload_n 0, 1) := dk_42 (dk_at dksX5_count_2 22 rfl rfl)
theorem dX5_count_87 : decode cX5_count 87 = .ok (.getfield 17, 3) := dk_180 0 17 (dk_at dksX5_count_3 0 rfl rfl)
theorem dX5_count_90 : decode cX5_count 90 = .ok (.bipush 35, 2) := dk_16 35 (dk_at dksX5_count_3 3 rfl rfl)
theorem dX5_count_92 : decode cX5_count 92 = .ok (.iaload, 1) := dk_46 (dk_at dksX5_count_3 5 rfl rfl)
theorem dX5_count_93 : decode cX5_count 93 = .ok (.ireturn, 1) := dk_172 (dk_at dksX5_count_3 6 rfl rfl)
theorem dX5_count_94 : decode cX5_count 94 = .ok (.aload_n 0, 1) := dk_42 (dk_at dksX5_count_3 7 rfl rfl)
theorem dX5_count_95 : decode cX5_count 95 = .ok (.getfield 17, 3) := dk_180 0 17 (dk_at dksX5_count_3 8 rfl rfl)
theorem dX5_count_98 : decode cX5_count 98 = .ok (.bipush 36, 2) := dk_16 36 (dk_at dksX5_count_3 11 rfl rfl)
theorem dX5_count_100 : decode cX5_count 100 = .ok (.iaload, 1) := dk_46 (dk_at dksX5_count_3 13 rfl rfl)
theorem dX5_count_101 : decode cX5_count 101 = .ok (.ireturn, 1) := dk_172 (dk_at dksX5_count_3 14 rfl rfl)
theorem dX5_count_102 : decode cX5_count 102 = .ok (.aload_n 0, 1) := dk_42 (dk_at dksX5_count_3 15 rfl rfl)
theorem dX5_count_103 : decode cX5_count 103 = .ok (.getfield 17, 3) := dk_180 0 17 (dk_at dksX5_count_3 16 rfl rfl)
theorem dX5_count_106 : decode cX5_count 106 = .ok (.bipush 37, 2) := dk_16 37 (dk_at dksX5_count_3 19 rfl rfl)
theorem dX5_count_108 : decode cX5_count 108 = .ok (.iaload, 1) := dk_46 (dk_at dksX5_count_3 21 rfl rfl)
theorem dX5_count_109 : decode cX5_count 109 = .ok (.ireturn, 1) := dk_172 (dk_at dksX5_count_3 22 rfl rfl)
theorem dX5_count_110 : decode cX5_count 110 = .ok (.aload_n 0, 1) := dk_42 (dk_at dksX5_count_3 23 rfl rfl)
theorem dX5_count_111 : decode cX5_count 111 = .ok (.getfield 17, 3) := dk_180 0 17 (dk_at dksX5_count_4 0 rfl rfl)
theorem dX5_count_114 : decode cX5_count 114 = .ok (.bipush 38, 2) := dk_16 38 (dk_at dksX5_count_4 3 rfl rfl)
theorem dX5_count_116 : decode cX5_count 116 = .ok (.iaload, 1) := dk_46 (dk_at dksX5_count_4 5 rfl rfl)
theorem dX5_count_117 : decode cX5_count 117 = .ok (.ireturn, 1) := dk_172 (dk_at dksX5_count_4 6 rfl rfl)
theorem dX5_count_118 : decode cX5_count 118 = .ok (.aload_n 0, 1) := dk_42 (dk_at dksX5_count_4 7 rfl rfl)
theorem dX5_count_119 : decode cX5_count 119 = .ok (.getfield 17, 3) := dk_180 0 17 (dk_at dksX5_count_4 8 rfl rfl)
theorem dX5_count_122 : decode cX5_count 122 = .ok (.bipush 40, 2) := dk_16 40 (dk_at dksX5_count_4 11 rfl rfl)
theorem dX5_count_124 : decode cX5_count 124 = .ok (.iaload, 1) := dk_46 (dk_at dksX5_count_4 13 rfl rfl)
theorem dX5_count_125 : decode cX5_count 125 = .ok (.ireturn, 1) := dk_172 (dk_at dksX5_count_4 14 rfl rfl)
theorem dX5_count_126 : decode cX5_count 126 = .ok (.aload_n 0, 1) := dk_42 (dk_at dksX5_count_4 15 rfl rfl)
theorem dX5_count_127 : decode cX5_count 127 = .ok (.getfield 17, 3) := dk_180 0 17 (dk_at dksX5_count_4 16 rfl rfl)
theorem dX5_count_130 : decode cX5_count 130 = .ok (.sipush 477, 3) := dk_17 1 221 (dk_at dksX5_count_4 19 rfl rfl)
theorem dX5_count_133 : decode cX5_count 133 = .ok (.iaload, 1) := dk_46 (dk_at dksX5_count_4 22 rfl rfl)
theorem dX5_count_134 : decode cX5_count 134 = .ok (.ireturn, 1) := dk_172 (dk_at dksX5_count_4 23 rfl rfl)
theorem dX5_count_135 : decode cX5_count 135 = .ok (.aload_n 0, 1) := dk_42 (dk_at dksX5_count_5 0 rfl rfl)
theorem dX5_count_136 : decode cX5_count 136 = .ok (.getfield 86, 3) := dk_180 0 86 (dk_at dksX5_count_5 1 rfl rfl)
theorem dX5_count_139 : decode cX5_count 139 = .ok (.ireturn, 1) := dk_172 (dk_at dksX5_count_5 4 rfl rfl)
theorem dX5_count_140 : decode cX5_count 140 = .ok (.aload_n 0, 1) := dk_42 (dk_at dksX5_count_5 5 rfl rfl)
theorem dX5_count_141 : decode cX5_count 141 = .ok (.getfield 17, 3) := dk_180 0 17 (dk_at dksX5_count_5 6 rfl rfl)
theorem dX5_count_144 : decode cX5_count 144 = .ok (.bipush 39, 2) := dk_16 39 (dk_at dksX5_count_5 9 rfl rfl)
theorem dX5_count_146 : decode cX5_count 146 = .ok (.iaload, 1) := dk_46 (dk_at dksX5_count_5 11 rfl rfl)
theorem dX5_count_147 : decode cX5_count 147 = .ok (.ireturn, 1) := dk_172 (dk_at dksX5_count_5 12 rfl rfl)
theorem dX5_count_148 : decode cX5_count 148 = .ok (.iconst (-1), 1) := dk_2 (dk_at dksX5_count_5 13 rfl rfl)
theorem dX5_count_149 : decode cX5_count 149 = .ok (.ireturn, 1) := dk_172 (dk_at dksX5_count_5 14 rfl rfl)
theorem q132 : (Jvm.Cond.initialized "FootOutModel") ∈ lw_all := lw_g (lw_at lw_m1 9 rfl) rfl
theorem q694 : (Jvm.Cond.selects "FootOutModel" ({ cls := "java/lang/Object", name := "getClass", desc := "()Ljava/lang/Class;" } : Jvm.MethodName) ({ cls := "java/lang/Object", name := "getClass", desc := "()Ljava/lang/Class;" } : Jvm.MethodName)) ∈ lw_all := lw_g (lw_at lw_m3 91 rfl) rfl
theorem q1613 : (Jvm.Cond.instantiable "FootOutModel" (36 : Nat)) ∈ lw_all := lw_g (lw_at lw_m7 50 rfl) rfl
theorem q1615 : (Jvm.Cond.instanceMethod ({ cls := "FootOutModel", name := "<init>", desc := "()V" } : Jvm.MethodName)) ∈ lw_all := lw_g (lw_at lw_m7 52 rfl) rfl
theorem q1616 : (Jvm.Cond.code ({ cls := "FootOutModel", name := "<init>", desc := "()V" } : Jvm.MethodName) prog_21_method_5_code (2 : Nat) (Option.none : Option Jvm.ClassFile.FieldType)) ∈ lw_all := lw_g (lw_at lw_m7 53 rfl) rfl
theorem q1617 : (Jvm.Cond.methodLink "FootOutModel" (11 : Nat) ({ cls := "java/lang/Object", name := "<init>", desc := "()V" } : Jvm.MethodName)) ∈ lw_all := lw_g (lw_at lw_m7 54 rfl) rfl
theorem q1618 : (Jvm.Cond.methodLink "FootOutModel" (82 : Nat) ({ cls := "FootOutModel", name := "plain", desc := "([I)V" } : Jvm.MethodName)) ∈ lw_all := lw_g (lw_at lw_m7 55 rfl) rfl
theorem q1619 : (Jvm.Cond.static ({ cls := "FootOutModel", name := "plain", desc := "([I)V" } : Jvm.MethodName)) ∈ lw_all := lw_g (lw_at lw_m7 56 rfl) rfl
theorem q1620 : (Jvm.Cond.code ({ cls := "FootOutModel", name := "plain", desc := "([I)V" } : Jvm.MethodName) prog_21_method_6_code (2 : Nat) (Option.none : Option Jvm.ClassFile.FieldType)) ∈ lw_all := lw_g (lw_at lw_m7 57 rfl) rfl
theorem q1621 : (Jvm.Cond.fieldLink "FootOutModel" (1 : Nat) "FootOutModel" "thrown" "I") ∈ lw_all := lw_g (lw_at lw_m7 58 rfl) rfl
theorem q1622 : (Jvm.Cond.fieldLink "FootOutModel" (7 : Nat) "FootOutModel" "refused" "[I") ∈ lw_all := lw_g (lw_at lw_m7 59 rfl) rfl
theorem q1623 : (Jvm.Cond.fieldLink "FootOutModel" (17 : Nat) "FootOutModel" "all" "[I") ∈ lw_all := lw_g (lw_at lw_m7 60 rfl) rfl
theorem q1624 : (Jvm.Cond.fieldLink "FootOutModel" (20 : Nat) "FootOutModel" "hasImage" "[Z") ∈ lw_all := lw_g (lw_at lw_m7 61 rfl) rfl
theorem q1625 : (Jvm.Cond.fieldLink "FootOutModel" (24 : Nat) "FootOutModel" "tape" "[I") ∈ lw_all := lw_g (lw_at lw_m7 62 rfl) rfl
theorem q1626 : (Jvm.Cond.fieldLink "FootOutModel" (27 : Nat) "FootOutModel" "fresh" "[I") ∈ lw_all := lw_g (lw_at lw_m7 63 rfl) rfl
theorem q1627 : (Jvm.Cond.fieldLink "FootOutModel" (86 : Nat) "FootOutModel" "taped" "I") ∈ lw_all := lw_g (lw_at lw_m7 64 rfl) rfl
theorem q1628 : (Jvm.Cond.fieldLink "FootOutModel" (108 : Nat) "FootOutModel" "at" "I") ∈ lw_all := lw_g (lw_at lw_m7 65 rfl) rfl
theorem q1629 : (Jvm.Cond.fieldLink "FootOutModel" (111 : Nat) "FootOutModel" "behind" "I") ∈ lw_all := lw_g (lw_at lw_m7 66 rfl) rfl
theorem q1630 : (Jvm.Cond.fieldLink "FootOutModel" (93 : Nat) "FootOutModel" "size" "I") ∈ lw_all := lw_g (lw_at lw_m7 67 rfl) rfl
theorem q1631 : (Jvm.Cond.fieldLink "FootOutModel" (117 : Nat) "FootOutModel" "kind" "I") ∈ lw_all := lw_g (lw_at lw_m7 68 rfl) rfl
theorem q1632 : (Jvm.Cond.fieldLink "FootOutModel" (130 : Nat) "FootOutModel" "number" "I") ∈ lw_all := lw_g (lw_at lw_m7 69 rfl) rfl
theorem q1633 : (Jvm.Cond.fieldLink "FootOutModel" (133 : Nat) "FootOutModel" "wrong" "I") ∈ lw_all := lw_g (lw_at lw_m7 70 rfl) rfl
theorem q1634 : (Jvm.Cond.fieldLink "FootOutModel" (136 : Nat) "FootOutModel" "wrongAt" "I") ∈ lw_all := lw_g (lw_at lw_m7 71 rfl) rfl
theorem q1635 : (Jvm.Cond.fieldLink "FootOutModel" (189 : Nat) "FootOutModel" "depth" "I") ∈ lw_all := lw_g (lw_at lw_m7 72 rfl) rfl
theorem q1636 : (Jvm.Cond.fieldLink "FootOutModel" (176 : Nat) "FootOutModel" "codes" "I") ∈ lw_all := lw_g (lw_at lw_m7 73 rfl) rfl
theorem q1637 : (Jvm.Cond.fieldLink "FootOutModel" (207 : Nat) "FootOutModel" "faultKind" "I") ∈ lw_all := lw_g (lw_at lw_m7 74 rfl) rfl
theorem q1638 : (Jvm.Cond.fieldLink "FootOutModel" (30 : Nat) "FootOutModel" "faultPlace" "I") ∈ lw_all := lw_g (lw_at lw_m7 75 rfl) rfl
theorem q1639 : (Jvm.Cond.fieldLink "FootOutModel" (33 : Nat) "FootOutModel" "now" "[I") ∈ lw_all := lw_g (lw_at lw_m7 76 rfl) rfl
theorem q1640 : (Jvm.Cond.fieldLink "FootOutModel" (36 : Nat) "FootOutModel" "kept" "[I") ∈ lw_all := lw_g (lw_at lw_m7 77 rfl) rfl
theorem q1641 : (Jvm.Cond.fieldLink "FootOutModel" (39 : Nat) "FootOutModel" "pile" "[Z") ∈ lw_all := lw_g (lw_at lw_m7 78 rfl) rfl
theorem q1642 : (Jvm.Cond.fieldLink "FootOutModel" (42 : Nat) "FootOutModel" "withoutLine" "I") ∈ lw_all := lw_g (lw_at lw_m7 79 rfl) rfl
theorem q1643 : (Jvm.Cond.fieldLink "FootOutModel" (45 : Nat) "FootOutModel" "withoutCar" "I") ∈ lw_all := lw_g (lw_at lw_m7 80 rfl) rfl
theorem q1644 : (Jvm.Cond.fieldLink "FootOutModel" (249 : Nat) "FootOutModel" "chanceOf" "I") ∈ lw_all := lw_g (lw_at lw_m7 81 rfl) rfl
theorem q1645 : (Jvm.Cond.fieldLink "FootOutModel" (48 : Nat) "FootOutModel" "went" "[Z") ∈ lw_all := lw_g (lw_at lw_m7 82 rfl) rfl
theorem q1646 : (Jvm.Cond.fieldLink "FootOutModel" (51 : Nat) "FootOutModel" "heldNow" "[Z") ∈ lw_all := lw_g (lw_at lw_m7 83 rfl) rfl
theorem q1647 : (Jvm.Cond.fieldLink "FootOutModel" (256 : Nat) "FootOutModel" "knocks" "I") ∈ lw_all := lw_g (lw_at lw_m7 84 rfl) rfl
theorem q1648 : (Jvm.Cond.fieldLink "FootOutModel" (54 : Nat) "FootOutModel" "parts" "[J") ∈ lw_all := lw_g (lw_at lw_m7 85 rfl) rfl
theorem q1649 : (Jvm.Cond.fieldLink "FootOutModel" (58 : Nat) "FootOutModel" "partsBy" "[J") ∈ lw_all := lw_g (lw_at lw_m7 86 rfl) rfl
theorem q1650 : (Jvm.Cond.fieldLink "FootOutModel" (61 : Nat) "FootOutModel" "partsStop" "[J") ∈ lw_all := lw_g (lw_at lw_m7 87 rfl) rfl
theorem q1651 : (Jvm.Cond.fieldLink "FootOutModel" (64 : Nat) "FootOutModel" "leastLeft" "[I") ∈ lw_all := lw_g (lw_at lw_m7 88 rfl) rfl
theorem q1652 : (Jvm.Cond.fieldLink "FootOutModel" (67 : Nat) "FootOutModel" "leastCost" "[I") ∈ lw_all := lw_g (lw_at lw_m7 89 rfl) rfl
theorem q1653 : (Jvm.Cond.fieldLink "FootOutModel" (70 : Nat) "FootOutModel" "goesAt" "[I") ∈ lw_all := lw_g (lw_at lw_m7 90 rfl) rfl
theorem q1654 : (Jvm.Cond.fieldLink "FootOutModel" (73 : Nat) "FootOutModel" "rowSort" "[I") ∈ lw_all := lw_g (lw_at lw_m7 91 rfl) rfl
theorem q1655 : (Jvm.Cond.fieldLink "FootOutModel" (76 : Nat) "FootOutModel" "rowMany" "[I") ∈ lw_all := lw_g (lw_at lw_m7 92 rfl) rfl
theorem q1656 : (Jvm.Cond.fieldLink "FootOutModel" (79 : Nat) "FootOutModel" "numbers" "[J") ∈ lw_all := lw_g (lw_at lw_m7 93 rfl) rfl
theorem q1657 : (Jvm.Cond.lays "FootOutModel" "FootOutModel" "thrown" "I") ∈ lw_all := lw_g (lw_at lw_m7 94 rfl) rfl
theorem q1658 : (Jvm.Cond.soleField "FootOutModel" "thrown") ∈ lw_all := lw_g (lw_at lw_m7 95 rfl) rfl
theorem q1659 : (Jvm.Cond.laysFinal "FootOutModel" "FootOutModel" "refused" "[I") ∈ lw_all := lw_g (lw_at lw_m7 96 rfl) rfl
theorem q1660 : (Jvm.Cond.soleField "FootOutModel" "refused") ∈ lw_all := lw_g (lw_at lw_m7 97 rfl) rfl
theorem q1661 : (Jvm.Cond.laysFinal "FootOutModel" "FootOutModel" "all" "[I") ∈ lw_all := lw_g (lw_at lw_m7 98 rfl) rfl
theorem q1662 : (Jvm.Cond.soleField "FootOutModel" "all") ∈ lw_all := lw_g (lw_at lw_m7 99 rfl) rfl
theorem q1663 : (Jvm.Cond.laysFinal "FootOutModel" "FootOutModel" "hasImage" "[Z") ∈ lw_all := lw_g (lw_at lw_m7 100 rfl) rfl
theorem q1664 : (Jvm.Cond.soleField "FootOutModel" "hasImage") ∈ lw_all := lw_g (lw_at lw_m7 101 rfl) rfl
theorem q1665 : (Jvm.Cond.laysFinal "FootOutModel" "FootOutModel" "tape" "[I") ∈ lw_all := lw_g (lw_at lw_m7 102 rfl) rfl
theorem q1666 : (Jvm.Cond.soleField "FootOutModel" "tape") ∈ lw_all := lw_g (lw_at lw_m7 103 rfl) rfl
theorem q1667 : (Jvm.Cond.laysFinal "FootOutModel" "FootOutModel" "fresh" "[I") ∈ lw_all := lw_g (lw_at lw_m7 104 rfl) rfl
theorem q1668 : (Jvm.Cond.soleField "FootOutModel" "fresh") ∈ lw_all := lw_g (lw_at lw_m7 105 rfl) rfl
theorem q1669 : (Jvm.Cond.lays "FootOutModel" "FootOutModel" "taped" "I") ∈ lw_all := lw_g (lw_at lw_m7 106 rfl) rfl
theorem q1670 : (Jvm.Cond.soleField "FootOutModel" "taped") ∈ lw_all := lw_g (lw_at lw_m7 107 rfl) rfl
theorem q1671 : (Jvm.Cond.lays "FootOutModel" "FootOutModel" "at" "I") ∈ lw_all := lw_g (lw_at lw_m7 108 rfl) rfl
theorem q1672 : (Jvm.Cond.soleField "FootOutModel" "at") ∈ lw_all := lw_g (lw_at lw_m7 109 rfl) rfl
theorem q1673 : (Jvm.Cond.lays "FootOutModel" "FootOutModel" "behind" "I") ∈ lw_all := lw_g (lw_at lw_m7 110 rfl) rfl
theorem q1674 : (Jvm.Cond.soleField "FootOutModel" "behind") ∈ lw_all := lw_g (lw_at lw_m7 111 rfl) rfl
theorem q1675 : (Jvm.Cond.lays "FootOutModel" "FootOutModel" "size" "I") ∈ lw_all := lw_g (lw_at lw_m7 112 rfl) rfl
theorem q1676 : (Jvm.Cond.soleField "FootOutModel" "size") ∈ lw_all := lw_g (lw_at lw_m7 113 rfl) rfl
theorem q1677 : (Jvm.Cond.lays "FootOutModel" "FootOutModel" "kind" "I") ∈ lw_all := lw_g (lw_at lw_m7 114 rfl) rfl
theorem q1678 : (Jvm.Cond.soleField "FootOutModel" "kind") ∈ lw_all := lw_g (lw_at lw_m7 115 rfl) rfl
theorem q1679 : (Jvm.Cond.lays "FootOutModel" "FootOutModel" "number" "I") ∈ lw_all := lw_g (lw_at lw_m7 116 rfl) rfl
theorem q1680 : (Jvm.Cond.soleField "FootOutModel" "number") ∈ lw_all := lw_g (lw_at lw_m7 117 rfl) rfl
theorem q1681 : (Jvm.Cond.lays "FootOutModel" "FootOutModel" "wrong" "I") ∈ lw_all := lw_g (lw_at lw_m7 118 rfl) rfl
theorem q1682 : (Jvm.Cond.soleField "FootOutModel" "wrong") ∈ lw_all := lw_g (lw_at lw_m7 119 rfl) rfl
theorem q1683 : (Jvm.Cond.lays "FootOutModel" "FootOutModel" "wrongAt" "I") ∈ lw_all := lw_g (lw_at lw_m7 120 rfl) rfl
theorem q1684 : (Jvm.Cond.soleField "FootOutModel" "wrongAt") ∈ lw_all := lw_g (lw_at lw_m7 121 rfl) rfl
theorem q1685 : (Jvm.Cond.lays "FootOutModel" "FootOutModel" "depth" "I") ∈ lw_all := lw_g (lw_at lw_m7 122 rfl) rfl
theorem q1686 : (Jvm.Cond.soleField "FootOutModel" "depth") ∈ lw_all := lw_g (lw_at lw_m7 123 rfl) rfl
theorem q1687 : (Jvm.Cond.lays "FootOutModel" "FootOutModel" "codes" "I") ∈ lw_all := lw_g (lw_at lw_m7 124 rfl) rfl
theorem q1688 : (Jvm.Cond.soleField "FootOutModel" "codes") ∈ lw_all := lw_g (lw_at lw_m7 125 rfl) rfl
theorem q1689 : (Jvm.Cond.lays "FootOutModel" "FootOutModel" "faultKind" "I") ∈ lw_all := lw_g (lw_at lw_m7 126 rfl) rfl
theorem q1690 : (Jvm.Cond.soleField "FootOutModel" "faultKind") ∈ lw_all := lw_g (lw_at lw_m7 127 rfl) rfl
theorem q1691 : (Jvm.Cond.lays "FootOutModel" "FootOutModel" "faultPlace" "I") ∈ lw_all := lw_g (lw_at lw_m7 128 rfl) rfl
theorem q1692 : (Jvm.Cond.soleField "FootOutModel" "faultPlace") ∈ lw_all := lw_g (lw_at lw_m7 129 rfl) rfl
theorem q1693 : (Jvm.Cond.laysFinal "FootOutModel" "FootOutModel" "now" "[I") ∈ lw_all := lw_g (lw_at lw_m7 130 rfl) rfl
theorem q1694 : (Jvm.Cond.soleField "FootOutModel" "now") ∈ lw_all := lw_g (lw_at lw_m7 131 rfl) rfl
theorem q1695 : (Jvm.Cond.laysFinal "FootOutModel" "FootOutModel" "kept" "[I") ∈ lw_all := lw_g (lw_at lw_m7 132 rfl) rfl
theorem q1696 : (Jvm.Cond.soleField "FootOutModel" "kept") ∈ lw_all := lw_g (lw_at lw_m7 133 rfl) rfl
theorem q1697 : (Jvm.Cond.laysFinal "FootOutModel" "FootOutModel" "pile" "[Z") ∈ lw_all := lw_g (lw_at lw_m7 134 rfl) rfl
theorem q1698 : (Jvm.Cond.soleField "FootOutModel" "pile") ∈ lw_all := lw_g (lw_at lw_m7 135 rfl) rfl
theorem q1699 : (Jvm.Cond.lays "FootOutModel" "FootOutModel" "withoutLine" "I") ∈ lw_all := lw_g (lw_at lw_m7 136 rfl) rfl
theorem q1700 : (Jvm.Cond.soleField "FootOutModel" "withoutLine") ∈ lw_all := lw_g (lw_at lw_m7 137 rfl) rfl
theorem q1701 : (Jvm.Cond.lays "FootOutModel" "FootOutModel" "withoutCar" "I") ∈ lw_all := lw_g (lw_at lw_m7 138 rfl) rfl
theorem q1702 : (Jvm.Cond.soleField "FootOutModel" "withoutCar") ∈ lw_all := lw_g (lw_at lw_m7 139 rfl) rfl
theorem q1703 : (Jvm.Cond.lays "FootOutModel" "FootOutModel" "chanceOf" "I") ∈ lw_all := lw_g (lw_at lw_m7 140 rfl) rfl
theorem q1704 : (Jvm.Cond.soleField "FootOutModel" "chanceOf") ∈ lw_all := lw_g (lw_at lw_m7 141 rfl) rfl
theorem q1705 : (Jvm.Cond.laysFinal "FootOutModel" "FootOutModel" "went" "[Z") ∈ lw_all := lw_g (lw_at lw_m7 142 rfl) rfl
theorem q1706 : (Jvm.Cond.soleField "FootOutModel" "went") ∈ lw_all := lw_g (lw_at lw_m7 143 rfl) rfl
theorem q1707 : (Jvm.Cond.laysFinal "FootOutModel" "FootOutModel" "heldNow" "[Z") ∈ lw_all := lw_g (lw_at lw_m7 144 rfl) rfl
theorem q1708 : (Jvm.Cond.soleField "FootOutModel" "heldNow") ∈ lw_all := lw_g (lw_at lw_m7 145 rfl) rfl
theorem q1709 : (Jvm.Cond.lays "FootOutModel" "FootOutModel" "knocks" "I") ∈ lw_all := lw_g (lw_at lw_m7 146 rfl) rfl
theorem q1710 : (Jvm.Cond.soleField "FootOutModel" "knocks") ∈ lw_all := lw_g (lw_at lw_m7 147 rfl) rfl
theorem q1711 : (Jvm.Cond.laysFinal "FootOutModel" "FootOutModel" "parts" "[J") ∈ lw_all := lw_g (lw_at lw_m7 148 rfl) rfl
theorem q1712 : (Jvm.Cond.soleField "FootOutModel" "parts") ∈ lw_all := lw_g (lw_at lw_m7 149 rfl) rfl
theorem q1713 : (Jvm.Cond.laysFinal "FootOutModel" "FootOutModel" "partsBy" "[J") ∈ lw_all := lw_g (lw_at lw_m7 150 rfl) rfl
theorem q1714 : (Jvm.Cond.soleField "FootOutModel" "partsBy") ∈ lw_all := lw_g (lw_at lw_m7 151 rfl) rfl
theorem q1715 : (Jvm.Cond.laysFinal "FootOutModel" "FootOutModel" "partsStop" "[J") ∈ lw_all := lw_g (lw_at lw_m7 152 rfl) rfl
theorem q1716 : (Jvm.Cond.soleField "FootOutModel" "partsStop") ∈ lw_all := lw_g (lw_at lw_m7 153 rfl) rfl
theorem q1717 : (Jvm.Cond.laysFinal "FootOutModel" "FootOutModel" "leastLeft" "[I") ∈ lw_all := lw_g (lw_at lw_m7 154 rfl) rfl
theorem q1718 : (Jvm.Cond.soleField "FootOutModel" "leastLeft") ∈ lw_all := lw_g (lw_at lw_m7 155 rfl) rfl
theorem q1719 : (Jvm.Cond.laysFinal "FootOutModel" "FootOutModel" "leastCost" "[I") ∈ lw_all := lw_g (lw_at lw_m7 156 rfl) rfl
theorem q1720 : (Jvm.Cond.soleField "FootOutModel" "leastCost") ∈ lw_all := lw_g (lw_at lw_m7 157 rfl) rfl
theorem q1721 : (Jvm.Cond.laysFinal "FootOutModel" "FootOutModel" "goesAt" "[I") ∈ lw_all := lw_g (lw_at lw_m7 158 rfl) rfl
theorem q1722 : (Jvm.Cond.soleField "FootOutModel" "goesAt") ∈ lw_all := lw_g (lw_at lw_m7 159 rfl) rfl
theorem q1723 : (Jvm.Cond.laysFinal "FootOutModel" "FootOutModel" "rowSort" "[I") ∈ lw_all := lw_g (lw_at lw_m7 160 rfl) rfl
theorem q1724 : (Jvm.Cond.soleField "FootOutModel" "rowSort") ∈ lw_all := lw_g (lw_at lw_m7 161 rfl) rfl
theorem q1725 : (Jvm.Cond.laysFinal "FootOutModel" "FootOutModel" "rowMany" "[I") ∈ lw_all := lw_g (lw_at lw_m7 162 rfl) rfl
theorem q1726 : (Jvm.Cond.soleField "FootOutModel" "rowMany") ∈ lw_all := lw_g (lw_at lw_m7 163 rfl) rfl
theorem q1727 : (Jvm.Cond.laysFinal "FootOutModel" "FootOutModel" "numbers" "[J") ∈ lw_all := lw_g (lw_at lw_m7 164 rfl) rfl
theorem q1728 : (Jvm.Cond.soleField "FootOutModel" "numbers") ∈ lw_all := lw_g (lw_at lw_m7 165 rfl) rfl
theorem q1729 : (Jvm.Cond.superclass "FootOutModel" "java/lang/Object") ∈ lw_all := lw_g (lw_at lw_m7 166 rfl) rfl
theorem q1731 : (Jvm.Cond.instanceMethod ({ cls := "FootOutModel", name := "feed", desc := "(IIIII)I" } : Jvm.MethodName)) ∈ lw_all := lw_g (lw_at lw_m7 168 rfl) rfl
theorem q1732 : (Jvm.Cond.selects "FootOutModel" ({ cls := "FootOutModel", name := "feed", desc := "(IIIII)I" } : Jvm.MethodName) ({ cls := "FootOutModel", name := "feed", desc := "(IIIII)I" } : Jvm.MethodName)) ∈ lw_all := lw_g (lw_at lw_m7 169 rfl) rfl
theorem q1733 : (Jvm.Cond.code ({ cls := "FootOutModel", name := "feed", desc := "(IIIII)I" } : Jvm.MethodName) prog_21_method_7_code (8 : Nat) (Option.some Jvm.ClassFile.FieldType.int)) ∈ lw_all := lw_g (lw_at lw_m7 170 rfl) rfl
theorem q1734 : (Jvm.Cond.methodLink "FootOutModel" (89 : Nat) ({ cls := "FootOutModel", name := "no", desc := "(I)I" } : Jvm.MethodName)) ∈ lw_all := lw_g (lw_at lw_m7 171 rfl) rfl
theorem q1735 : (Jvm.Cond.privateMethod ({ cls := "FootOutModel", name := "no", desc := "(I)I" } : Jvm.MethodName)) ∈ lw_tbl := lw_at lw_m7 172 rfl
theorem q1736 : (Jvm.Cond.instanceMethod ({ cls := "FootOutModel", name := "no", desc := "(I)I" } : Jvm.MethodName)) ∈ lw_all := lw_g (lw_at lw_m7 173 rfl) rfl
theorem q1737 : (Jvm.Cond.code ({ cls := "FootOutModel", name := "no", desc := "(I)I" } : Jvm.MethodName) prog_21_method_2_code (2 : Nat) (Option.some Jvm.ClassFile.FieldType.int)) ∈ lw_all := lw_g (lw_at lw_m7 174 rfl) rfl
theorem q1739 : (Jvm.Cond.instanceMethod ({ cls := "FootOutModel", name := "text", desc := "(II)I" } : Jvm.MethodName)) ∈ lw_all := lw_g (lw_at lw_m7 176 rfl) rfl
theorem q1740 : (Jvm.Cond.selects "FootOutModel" ({ cls := "FootOutModel", name := "text", desc := "(II)I" } : Jvm.MethodName) ({ cls := "FootOutModel", name := "text", desc := "(II)I" } : Jvm.MethodName)) ∈ lw_all := lw_g (lw_at lw_m7 177 rfl) rfl
theorem q1741 : (Jvm.Cond.code ({ cls := "FootOutModel", name := "text", desc := "(II)I" } : Jvm.MethodName) prog_21_method_27_code (6 : Nat) (Option.some Jvm.ClassFile.FieldType.int)) ∈ lw_all := lw_g (lw_at lw_m7 178 rfl) rfl
theorem q1742 : (Jvm.Cond.methodLink "FootOutModel" (152 : Nat) ({ cls := "FootOutModel", name := "within", desc := "(JJJ)Z" } : Jvm.MethodName)) ∈ lw_all := lw_g (lw_at lw_m7 179 rfl) rfl
theorem q1743 : (Jvm.Cond.static ({ cls := "FootOutModel", name := "within", desc := "(JJJ)Z" } : Jvm.MethodName)) ∈ lw_all := lw_g (lw_at lw_m7 180 rfl) rfl
theorem q1744 : (Jvm.Cond.code ({ cls := "FootOutModel", name := "within", desc := "(JJJ)Z" } : Jvm.MethodName) prog_21_method_4_code (6 : Nat) (Option.some Jvm.ClassFile.FieldType.boolean)) ∈ lw_all := lw_g (lw_at lw_m7 181 rfl) rfl
theorem q1745 : (Jvm.Cond.methodLink "FootOutModel" (142 : Nat) ({ cls := "FootOutModel", name := "next", desc := "()V" } : Jvm.MethodName)) ∈ lw_all := lw_g (lw_at lw_m7 182 rfl) rfl
theorem q1746 : (Jvm.Cond.privateMethod ({ cls := "FootOutModel", name := "next", desc := "()V" } : Jvm.MethodName)) ∈ lw_tbl := lw_at lw_m7 183 rfl
theorem q1747 : (Jvm.Cond.instanceMethod ({ cls := "FootOutModel", name := "next", desc := "()V" } : Jvm.MethodName)) ∈ lw_all := lw_g (lw_at lw_m7 184 rfl) rfl
theorem q1748 : (Jvm.Cond.code ({ cls := "FootOutModel", name := "next", desc := "()V" } : Jvm.MethodName) prog_21_method_12_code (1 : Nat) (Option.none : Option Jvm.ClassFile.FieldType)) ∈ lw_all := lw_g (lw_at lw_m7 185 rfl) rfl
theorem q1749 : (Jvm.Cond.methodLink "FootOutModel" (114 : Nat) ({ cls := "FootOutModel", name := "see", desc := "(I)I" } : Jvm.MethodName)) ∈ lw_all := lw_g (lw_at lw_m7 186 rfl) rfl
theorem q1750 : (Jvm.Cond.privateMethod ({ cls := "FootOutModel", name := "see", desc := "(I)I" } : Jvm.MethodName)) ∈ lw_tbl := lw_at lw_m7 187 rfl
theorem q1751 : (Jvm.Cond.instanceMethod ({ cls := "FootOutModel", name := "see", desc := "(I)I" } : Jvm.MethodName)) ∈ lw_all := lw_g (lw_at lw_m7 188 rfl) rfl
theorem q1752 : (Jvm.Cond.code ({ cls := "FootOutModel", name := "see", desc := "(I)I" } : Jvm.MethodName) prog_21_method_8_code (2 : Nat) (Option.some Jvm.ClassFile.FieldType.int)) ∈ lw_all := lw_g (lw_at lw_m7 189 rfl) rfl
theorem q1753 : (Jvm.Cond.methodLink "FootOutModel" (120 : Nat) ({ cls := "FootOutModel", name := "isSmall", desc := "(I)Z" } : Jvm.MethodName)) ∈ lw_all := lw_g (lw_at lw_m7 190 rfl) rfl
theorem q1754 : (Jvm.Cond.static ({ cls := "FootOutModel", name := "isSmall", desc := "(I)Z" } : Jvm.MethodName)) ∈ lw_all := lw_g (lw_at lw_m7 191 rfl) rfl
theorem q1755 : (Jvm.Cond.code ({ cls := "FootOutModel", name := "isSmall", desc := "(I)Z" } : Jvm.MethodName) prog_21_method_9_code (1 : Nat) (Option.some Jvm.ClassFile.FieldType.boolean)) ∈ lw_all := lw_g (lw_at lw_m7 192 rfl) rfl
theorem q1756 : (Jvm.Cond.methodLink "FootOutModel" (124 : Nat) ({ cls := "FootOutModel", name := "keyAt", desc := "()I" } : Jvm.MethodName)) ∈ lw_all := lw_g (lw_at lw_m7 193 rfl) rfl
theorem q1757 : (Jvm.Cond.privateMethod ({ cls := "FootOutModel", name := "keyAt", desc := "()I" } : Jvm.MethodName)) ∈ lw_tbl := lw_at lw_m7 194 rfl
theorem q1758 : (Jvm.Cond.instanceMethod ({ cls := "FootOutModel", name := "keyAt", desc := "()I" } : Jvm.MethodName)) ∈ lw_all := lw_g (lw_at lw_m7 195 rfl) rfl
theorem q1759 : (Jvm.Cond.code ({ cls := "FootOutModel", name := "keyAt", desc := "()I" } : Jvm.MethodName) prog_21_method_11_code (4 : Nat) (Option.some Jvm.ClassFile.FieldType.int)) ∈ lw_all := lw_g (lw_at lw_m7 196 rfl) rfl
theorem q1760 : (Jvm.Cond.stringRef "FootOutModel" (96 : Nat) " lanes car at pace kind old pram foot eye two lamp hump paint line gap waits sight stop if or and not near fast lane ahead beside passed in ") ∈ lw_tbl := lw_at lw_m7 197 rfl
theorem q1761 : (Jvm.Cond.methodLink "FootOutModel" (98 : Nat) ({ cls := "java/lang/String", name := "length", desc := "()I" } : Jvm.MethodName)) ∈ lw_all := lw_g (lw_at lw_m7 198 rfl) rfl
theorem q1762 : (Jvm.Cond.methodLink "FootOutModel" (104 : Nat) ({ cls := "java/lang/String", name := "charAt", desc := "(I)C" } : Jvm.MethodName)) ∈ lw_all := lw_g (lw_at lw_m7 199 rfl) rfl
theorem q1763 : (Jvm.Cond.methodLink "FootOutModel" (127 : Nat) ({ cls := "FootOutModel", name := "isDigit", desc := "(I)Z" } : Jvm.MethodName)) ∈ lw_all := lw_g (lw_at lw_m7 200 rfl) rfl
theorem q1764 : (Jvm.Cond.static ({ cls := "FootOutModel", name := "isDigit", desc := "(I)Z" } : Jvm.MethodName)) ∈ lw_all := lw_g (lw_at lw_m7 201 rfl) rfl
theorem q1765 : (Jvm.Cond.code ({ cls := "FootOutModel", name := "isDigit", desc := "(I)Z" } : Jvm.MethodName) prog_21_method_10_code (1 : Nat) (Option.some Jvm.ClassFile.FieldType.boolean)) ∈ lw_all := lw_g (lw_at lw_m7 202 rfl) rfl
theorem q1766 : (Jvm.Cond.methodLink "FootOutModel" (201 : Nat) ({ cls := "FootOutModel", name := "readLine", desc := "()V" } : Jvm.MethodName)) ∈ lw_all := lw_g (lw_at lw_m7 203 rfl) rfl
theorem q1767 : (Jvm.Cond.privateMethod ({ cls := "FootOutModel", name := "readLine", desc := "()V" } : Jvm.MethodName)) ∈ lw_tbl := lw_at lw_m7 204 rfl
theorem q1768 : (Jvm.Cond.instanceMethod ({ cls := "FootOutModel", name := "readLine", desc := "()V" } : Jvm.MethodName)) ∈ lw_all := lw_g (lw_at lw_m7 205 rfl) rfl
theorem q1769 : (Jvm.Cond.code ({ cls := "FootOutModel", name := "readLine", desc := "()V" } : Jvm.MethodName) prog_21_method_20_code (1 : Nat) (Option.none : Option Jvm.ClassFile.FieldType)) ∈ lw_all := lw_g (lw_at lw_m7 206 rfl) rfl
theorem q1770 : (Jvm.Cond.methodLink "FootOutModel" (145 : Nat) ({ cls := "FootOutModel", name := "eats", desc := "(I)Z" } : Jvm.MethodName)) ∈ lw_all := lw_g (lw_at lw_m7 207 rfl) rfl
theorem q1771 : (Jvm.Cond.privateMethod ({ cls := "FootOutModel", name := "eats", desc := "(I)Z" } : Jvm.MethodName)) ∈ lw_tbl := lw_at lw_m7 208 rfl
theorem q1772 : (Jvm.Cond.instanceMethod ({ cls := "FootOutModel", name := "eats", desc := "(I)Z" } : Jvm.MethodName)) ∈ lw_all := lw_g (lw_at lw_m7 209 rfl) rfl
theorem q1773 : (Jvm.Cond.code ({ cls := "FootOutModel", name := "eats", desc := "(I)Z" } : Jvm.MethodName) prog_21_method_15_code (2 : Nat) (Option.some Jvm.ClassFile.FieldType.boolean)) ∈ lw_all := lw_g (lw_at lw_m7 210 rfl) rfl
theorem q1774 : (Jvm.Cond.methodLink "FootOutModel" (139 : Nat) ({ cls := "FootOutModel", name := "is", desc := "(I)Z" } : Jvm.MethodName)) ∈ lw_all := lw_g (lw_at lw_m7 211 rfl) rfl
theorem q1775 : (Jvm.Cond.privateMethod ({ cls := "FootOutModel", name := "is", desc := "(I)Z" } : Jvm.MethodName)) ∈ lw_tbl := lw_at lw_m7 212 rfl
theorem q1776 : (Jvm.Cond.instanceMethod ({ cls := "FootOutModel", name := "is", desc := "(I)Z" } : Jvm.MethodName)) ∈ lw_all := lw_g (lw_at lw_m7 213 rfl) rfl
theorem q1777 : (Jvm.Cond.code ({ cls := "FootOutModel", name := "is", desc := "(I)Z" } : Jvm.MethodName) prog_21_method_14_code (2 : Nat) (Option.some Jvm.ClassFile.FieldType.boolean)) ∈ lw_all := lw_g (lw_at lw_m7 214 rfl) rfl
theorem q1778 : (Jvm.Cond.methodLink "FootOutModel" (163 : Nat) ({ cls := "FootOutModel", name := "lanesNeeded", desc := "()I" } : Jvm.MethodName)) ∈ lw_all := lw_g (lw_at lw_m7 215 rfl) rfl
theorem q1779 : (Jvm.Cond.privateMethod ({ cls := "FootOutModel", name := "lanesNeeded", desc := "()I" } : Jvm.MethodName)) ∈ lw_tbl := lw_at lw_m7 216 rfl
theorem q1780 : (Jvm.Cond.instanceMethod ({ cls := "FootOutModel", name := "lanesNeeded", desc := "()I" } : Jvm.MethodName)) ∈ lw_all := lw_g (lw_at lw_m7 217 rfl) rfl
theorem q1781 : (Jvm.Cond.code ({ cls := "FootOutModel", name := "lanesNeeded", desc := "()I" } : Jvm.MethodName) prog_21_method_19_code (3 : Nat) (Option.some Jvm.ClassFile.FieldType.int)) ∈ lw_all := lw_g (lw_at lw_m7 218 rfl) rfl
theorem q1782 : (Jvm.Cond.methodLink "FootOutModel" (156 : Nat) ({ cls := "FootOutModel", name := "takes", desc := "(II)I" } : Jvm.MethodName)) ∈ lw_all := lw_g (lw_at lw_m7 219 rfl) rfl
theorem q1783 : (Jvm.Cond.privateMethod ({ cls := "FootOutModel", name := "takes", desc := "(II)I" } : Jvm.MethodName)) ∈ lw_tbl := lw_at lw_m7 220 rfl
theorem q1784 : (Jvm.Cond.instanceMethod ({ cls := "FootOutModel", name := "takes", desc := "(II)I" } : Jvm.MethodName)) ∈ lw_all := lw_g (lw_at lw_m7 221 rfl) rfl
theorem q1785 : (Jvm.Cond.code ({ cls := "FootOutModel", name := "takes", desc := "(II)I" } : Jvm.MethodName) prog_21_method_17_code (4 : Nat) (Option.some Jvm.ClassFile.FieldType.int)) ∈ lw_all := lw_g (lw_at lw_m7 222 rfl) rfl
theorem q1786 : (Jvm.Cond.methodLink "FootOutModel" (148 : Nat) ({ cls := "FootOutModel", name := "fails", desc := "(I)V" } : Jvm.MethodName)) ∈ lw_all := lw_g (lw_at lw_m7 223 rfl) rfl
theorem q1787 : (Jvm.Cond.privateMethod ({ cls := "FootOutModel", name := "fails", desc := "(I)V" } : Jvm.MethodName)) ∈ lw_tbl := lw_at lw_m7 224 rfl
theorem q1788 : (Jvm.Cond.instanceMethod ({ cls := "FootOutModel", name := "fails", desc := "(I)V" } : Jvm.MethodName)) ∈ lw_all := lw_g (lw_at lw_m7 225 rfl) rfl
theorem q1789 : (Jvm.Cond.code ({ cls := "FootOutModel", name := "fails", desc := "(I)V" } : Jvm.MethodName) prog_21_method_13_code (2 : Nat) (Option.none : Option Jvm.ClassFile.FieldType)) ∈ lw_all := lw_g (lw_at lw_m7 226 rfl) rfl
theorem q1790 : (Jvm.Cond.methodLink "FootOutModel" (166 : Nat) ({ cls := "FootOutModel", name := "readCar", desc := "()V" } : Jvm.MethodName)) ∈ lw_all := lw_g (lw_at lw_m7 227 rfl) rfl
theorem q1791 : (Jvm.Cond.privateMethod ({ cls := "FootOutModel", name := "readCar", desc := "()V" } : Jvm.MethodName)) ∈ lw_tbl := lw_at lw_m7 228 rfl
theorem q1792 : (Jvm.Cond.instanceMethod ({ cls := "FootOutModel", name := "readCar", desc := "()V" } : Jvm.MethodName)) ∈ lw_all := lw_g (lw_at lw_m7 229 rfl) rfl
theorem q1793 : (Jvm.Cond.code ({ cls := "FootOutModel", name := "readCar", desc := "()V" } : Jvm.MethodName) prog_21_method_18_code (2 : Nat) (Option.none : Option Jvm.ClassFile.FieldType)) ∈ lw_all := lw_g (lw_at lw_m7 230 rfl) rfl
theorem q1794 : (Jvm.Cond.methodLink "FootOutModel" (160 : Nat) ({ cls := "FootOutModel", name := "needs", desc := "(I)V" } : Jvm.MethodName)) ∈ lw_all := lw_g (lw_at lw_m7 231 rfl) rfl
theorem q1795 : (Jvm.Cond.privateMethod ({ cls := "FootOutModel", name := "needs", desc := "(I)V" } : Jvm.MethodName)) ∈ lw_tbl := lw_at lw_m7 232 rfl
theorem q1796 : (Jvm.Cond.instanceMethod ({ cls := "FootOutModel", name := "needs", desc := "(I)V" } : Jvm.MethodName)) ∈ lw_all := lw_g (lw_at lw_m7 233 rfl) rfl
theorem q1797 : (Jvm.Cond.code ({ cls := "FootOutModel", name := "needs", desc := "(I)V" } : Jvm.MethodName) prog_21_method_16_code (2 : Nat) (Option.none : Option Jvm.ClassFile.FieldType)) ∈ lw_all := lw_g (lw_at lw_m7 234 rfl) rfl
theorem q1798 : (Jvm.Cond.methodLink "FootOutModel" (169 : Nat) ({ cls := "FootOutModel", name := "readTrait", desc := "()V" } : Jvm.MethodName)) ∈ lw_all := lw_g (lw_at lw_m7 235 rfl) rfl
theorem q1799 : (Jvm.Cond.privateMethod ({ cls := "FootOutModel", name := "readTrait", desc := "()V" } : Jvm.MethodName)) ∈ lw_tbl := lw_at lw_m7 236 rfl
theorem q1800 : (Jvm.Cond.instanceMethod ({ cls := "FootOutModel", name := "readTrait", desc := "()V" } : Jvm.MethodName)) ∈ lw_all := lw_g (lw_at lw_m7 237 rfl) rfl
theorem q1801 : (Jvm.Cond.code ({ cls := "FootOutModel", name := "readTrait", desc := "()V" } : Jvm.MethodName) prog_21_method_21_code (1 : Nat) (Option.none : Option Jvm.ClassFile.FieldType)) ∈ lw_all := lw_g (lw_at lw_m7 238 rfl) rfl
theorem q1802 : (Jvm.Cond.constantLong "FootOutModel" (172 : Nat) (5 : Int64)) ∈ lw_all := lw_g (lw_at lw_m7 239 rfl) rfl
theorem q1803 : (Jvm.Cond.constantLong "FootOutModel" (174 : Nat) (12 : Int64)) ∈ lw_all := lw_g (lw_at lw_m8 0 rfl) rfl
theorem q1804 : (Jvm.Cond.methodLink "FootOutModel" (204 : Nat) ({ cls := "FootOutModel", name := "readLaw", desc := "()V" } : Jvm.MethodName)) ∈ lw_all := lw_g (lw_at lw_m8 1 rfl) rfl
theorem q1805 : (Jvm.Cond.privateMethod ({ cls := "FootOutModel", name := "readLaw", desc := "()V" } : Jvm.MethodName)) ∈ lw_tbl := lw_at lw_m8 2 rfl
theorem q1806 : (Jvm.Cond.instanceMethod ({ cls := "FootOutModel", name := "readLaw", desc := "()V" } : Jvm.MethodName)) ∈ lw_all := lw_g (lw_at lw_m8 3 rfl) rfl
theorem q1807 : (Jvm.Cond.code ({ cls := "FootOutModel", name := "readLaw", desc := "()V" } : Jvm.MethodName) prog_21_method_26_code (2 : Nat) (Option.none : Option Jvm.ClassFile.FieldType)) ∈ lw_all := lw_g (lw_at lw_m8 4 rfl) rfl
theorem q1808 : (Jvm.Cond.methodLink "FootOutModel" (192 : Nat) ({ cls := "FootOutModel", name := "readTest", desc := "()V" } : Jvm.MethodName)) ∈ lw_all := lw_g (lw_at lw_m8 5 rfl) rfl
theorem q1809 : (Jvm.Cond.privateMethod ({ cls := "FootOutModel", name := "readTest", desc := "()V" } : Jvm.MethodName)) ∈ lw_tbl := lw_at lw_m8 6 rfl
theorem q1810 : (Jvm.Cond.instanceMethod ({ cls := "FootOutModel", name := "readTest", desc := "()V" } : Jvm.MethodName)) ∈ lw_all := lw_g (lw_at lw_m8 7 rfl) rfl
theorem q1811 : (Jvm.Cond.code ({ cls := "FootOutModel", name := "readTest", desc := "()V" } : Jvm.MethodName) prog_21_method_23_code (1 : Nat) (Option.none : Option Jvm.ClassFile.FieldType)) ∈ lw_all := lw_g (lw_at lw_m8 8 rfl) rfl
theorem q1812 : (Jvm.Cond.methodLink "FootOutModel" (179 : Nat) ({ cls := "FootOutModel", name := "readPart", desc := "()V" } : Jvm.MethodName)) ∈ lw_all := lw_g (lw_at lw_m8 9 rfl) rfl
theorem q1813 : (Jvm.Cond.privateMethod ({ cls := "FootOutModel", name := "readPart", desc := "()V" } : Jvm.MethodName)) ∈ lw_tbl := lw_at lw_m8 10 rfl
theorem q1814 : (Jvm.Cond.instanceMethod ({ cls := "FootOutModel", name := "readPart", desc := "()V" } : Jvm.MethodName)) ∈ lw_all := lw_g (lw_at lw_m8 11 rfl) rfl
theorem q1815 : (Jvm.Cond.code ({ cls := "FootOutModel", name := "readPart", desc := "()V" } : Jvm.MethodName) prog_21_method_24_code (1 : Nat) (Option.none : Option Jvm.ClassFile.FieldType)) ∈ lw_all := lw_g (lw_at lw_m8 12 rfl) rfl
theorem q1816 : (Jvm.Cond.methodLink "FootOutModel" (186 : Nat) ({ cls := "FootOutModel", name := "readFact", desc := "()V" } : Jvm.MethodName)) ∈ lw_all := lw_g (lw_at lw_m8 13 rfl) rfl
theorem q1817 : (Jvm.Cond.privateMethod ({ cls := "FootOutModel", name := "readFact", desc := "()V" } : Jvm.MethodName)) ∈ lw_tbl := lw_at lw_m8 14 rfl
theorem q1818 : (Jvm.Cond.instanceMethod ({ cls := "FootOutModel", name := "readFact", desc := "()V" } : Jvm.MethodName)) ∈ lw_all := lw_g (lw_at lw_m8 15 rfl) rfl
theorem q1819 : (Jvm.Cond.code ({ cls := "FootOutModel", name := "readFact", desc := "()V" } : Jvm.MethodName) prog_21_method_25_code (3 : Nat) (Option.none : Option Jvm.ClassFile.FieldType)) ∈ lw_all := lw_g (lw_at lw_m8 16 rfl) rfl
theorem q1820 : (Jvm.Cond.methodLink "FootOutModel" (182 : Nat) ({ cls := "FootOutModel", name := "emit", desc := "(II)V" } : Jvm.MethodName)) ∈ lw_all := lw_g (lw_at lw_m8 17 rfl) rfl
theorem q1821 : (Jvm.Cond.privateMethod ({ cls := "FootOutModel", name := "emit", desc := "(II)V" } : Jvm.MethodName)) ∈ lw_tbl := lw_at lw_m8 18 rfl
theorem q1822 : (Jvm.Cond.instanceMethod ({ cls := "FootOutModel", name := "emit", desc := "(II)V" } : Jvm.MethodName)) ∈ lw_all := lw_g (lw_at lw_m8 19 rfl) rfl
theorem q1823 : (Jvm.Cond.code ({ cls := "FootOutModel", name := "emit", desc := "(II)V" } : Jvm.MethodName) prog_21_method_22_code (3 : Nat) (Option.none : Option Jvm.ClassFile.FieldType)) ∈ lw_all := lw_g (lw_at lw_m8 20 rfl) rfl
theorem q1824 : (Jvm.Cond.constantLong "FootOutModel" (195 : Nat) (22 : Int64)) ∈ lw_all := lw_g (lw_at lw_m8 21 rfl) rfl
theorem q1825 : (Jvm.Cond.constantLong "FootOutModel" (197 : Nat) (28 : Int64)) ∈ lw_all := lw_g (lw_at lw_m8 22 rfl) rfl
theorem q1826 : (Jvm.Cond.constantLong "FootOutModel" (199 : Nat) (24 : Int64)) ∈ lw_all := lw_g (lw_at lw_m8 23 rfl) rfl
theorem q1828 : (Jvm.Cond.instanceMethod ({ cls := "FootOutModel", name := "fault", desc := "(I)I" } : Jvm.MethodName)) ∈ lw_all := lw_g (lw_at lw_m8 25 rfl) rfl
theorem q1829 : (Jvm.Cond.selects "FootOutModel" ({ cls := "FootOutModel", name := "fault", desc := "(I)I" } : Jvm.MethodName) ({ cls := "FootOutModel", name := "fault", desc := "(I)I" } : Jvm.MethodName)) ∈ lw_all := lw_g (lw_at lw_m8 26 rfl) rfl
theorem q1830 : (Jvm.Cond.code ({ cls := "FootOutModel", name := "fault", desc := "(I)I" } : Jvm.MethodName) prog_21_method_28_code (2 : Nat) (Option.some Jvm.ClassFile.FieldType.int)) ∈ lw_all := lw_g (lw_at lw_m8 27 rfl) rfl
theorem q1832 : (Jvm.Cond.instanceMethod ({ cls := "FootOutModel", name := "car", desc := "(II)I" } : Jvm.MethodName)) ∈ lw_all := lw_g (lw_at lw_m8 29 rfl) rfl
theorem q1833 : (Jvm.Cond.selects "FootOutModel" ({ cls := "FootOutModel", name := "car", desc := "(II)I" } : Jvm.MethodName) ({ cls := "FootOutModel", name := "car", desc := "(II)I" } : Jvm.MethodName)) ∈ lw_all := lw_g (lw_at lw_m8 30 rfl) rfl
theorem q1834 : (Jvm.Cond.code ({ cls := "FootOutModel", name := "car", desc := "(II)I" } : Jvm.MethodName) prog_21_method_30_code (3 : Nat) (Option.some Jvm.ClassFile.FieldType.int)) ∈ lw_all := lw_g (lw_at lw_m8 31 rfl) rfl
theorem q1835 : (Jvm.Cond.methodLink "FootOutModel" (210 : Nat) ({ cls := "FootOutModel", name := "isCar", desc := "(I)Z" } : Jvm.MethodName)) ∈ lw_all := lw_g (lw_at lw_m8 32 rfl) rfl
theorem q1836 : (Jvm.Cond.privateMethod ({ cls := "FootOutModel", name := "isCar", desc := "(I)Z" } : Jvm.MethodName)) ∈ lw_tbl := lw_at lw_m8 33 rfl
theorem q1837 : (Jvm.Cond.instanceMethod ({ cls := "FootOutModel", name := "isCar", desc := "(I)Z" } : Jvm.MethodName)) ∈ lw_all := lw_g (lw_at lw_m8 34 rfl) rfl
theorem q1838 : (Jvm.Cond.code ({ cls := "FootOutModel", name := "isCar", desc := "(I)Z" } : Jvm.MethodName) prog_21_method_29_code (2 : Nat) (Option.some Jvm.ClassFile.FieldType.boolean)) ∈ lw_all := lw_g (lw_at lw_m8 35 rfl) rfl
theorem q1839 : (Jvm.Cond.constantLong "FootOutModel" (213 : Nat) (3 : Int64)) ∈ lw_all := lw_g (lw_at lw_m8 36 rfl) rfl
theorem q1841 : (Jvm.Cond.instanceMethod ({ cls := "FootOutModel", name := "trait", desc := "(IZ)I" } : Jvm.MethodName)) ∈ lw_all := lw_g (lw_at lw_m8 38 rfl) rfl
theorem q1842 : (Jvm.Cond.selects "FootOutModel" ({ cls := "FootOutModel", name := "trait", desc := "(IZ)I" } : Jvm.MethodName) ({ cls := "FootOutModel", name := "trait", desc := "(IZ)I" } : Jvm.MethodName)) ∈ lw_all := lw_g (lw_at lw_m8 39 rfl) rfl
theorem q1843 : (Jvm.Cond.code ({ cls := "FootOutModel", name := "trait", desc := "(IZ)I" } : Jvm.MethodName) prog_21_method_31_code (4 : Nat) (Option.some Jvm.ClassFile.FieldType.int)) ∈ lw_all := lw_g (lw_at lw_m8 40 rfl) rfl
theorem q1844 : (Jvm.Cond.constantLong "FootOutModel" (215 : Nat) (7 : Int64)) ∈ lw_all := lw_g (lw_at lw_m8 41 rfl) rfl
theorem q1846 : (Jvm.Cond.instanceMethod ({ cls := "FootOutModel", name := "set", desc := "(II)I" } : Jvm.MethodName)) ∈ lw_all := lw_g (lw_at lw_m8 43 rfl) rfl
theorem q1847 : (Jvm.Cond.selects "FootOutModel" ({ cls := "FootOutModel", name := "set", desc := "(II)I" } : Jvm.MethodName) ({ cls := "FootOutModel", name := "set", desc := "(II)I" } : Jvm.MethodName)) ∈ lw_all := lw_g (lw_at lw_m8 44 rfl) rfl
theorem q1848 : (Jvm.Cond.code ({ cls := "FootOutModel", name := "set", desc := "(II)I" } : Jvm.MethodName) prog_21_method_32_code (4 : Nat) (Option.some Jvm.ClassFile.FieldType.int)) ∈ lw_all := lw_g (lw_at lw_m8 45 rfl) rfl
theorem q1849 : (Jvm.Cond.constantLong "FootOutModel" (217 : Nat) (30 : Int64)) ∈ lw_all := lw_g (lw_at lw_m8 46 rfl) rfl
theorem q1850 : (Jvm.Cond.constantLong "FootOutModel" (219 : Nat) (20 : Int64)) ∈ lw_all := lw_g (lw_at lw_m8 47 rfl) rfl
theorem q1851 : (Jvm.Cond.constantLong "FootOutModel" (221 : Nat) (60 : Int64)) ∈ lw_all := lw_g (lw_at lw_m8 48 rfl) rfl
theorem q1852 : (Jvm.Cond.constantLong "FootOutModel" (223 : Nat) (200 : Int64)) ∈ lw_all := lw_g (lw_at lw_m8 49 rfl) rfl
theorem q1854 : (Jvm.Cond.instanceMethod ({ cls := "FootOutModel", name := "chance", desc := "(I)I" } : Jvm.MethodName)) ∈ lw_all := lw_g (lw_at lw_m8 51 rfl) rfl
theorem q1855 : (Jvm.Cond.selects "FootOutModel" ({ cls := "FootOutModel", name := "chance", desc := "(I)I" } : Jvm.MethodName) ({ cls := "FootOutModel", name := "chance", desc := "(I)I" } : Jvm.MethodName)) ∈ lw_all := lw_g (lw_at lw_m8 52 rfl) rfl
theorem q1856 : (Jvm.Cond.code ({ cls := "FootOutModel", name := "chance", desc := "(I)I" } : Jvm.MethodName) prog_21_method_40_code (2 : Nat) (Option.some Jvm.ClassFile.FieldType.int)) ∈ lw_all := lw_g (lw_at lw_m8 53 rfl) rfl
theorem q1857 : (Jvm.Cond.methodLink "FootOutModel" (240 : Nat) ({ cls := "FootOutModel", name := "begins", desc := "(I)V" } : Jvm.MethodName)) ∈ lw_all := lw_g (lw_at lw_m8 54 rfl) rfl
theorem q1858 : (Jvm.Cond.privateMethod ({ cls := "FootOutModel", name := "begins", desc := "(I)V" } : Jvm.MethodName)) ∈ lw_tbl := lw_at lw_m8 55 rfl
theorem q1859 : (Jvm.Cond.instanceMethod ({ cls := "FootOutModel", name := "begins", desc := "(I)V" } : Jvm.MethodName)) ∈ lw_all := lw_g (lw_at lw_m8 56 rfl) rfl
theorem q1860 : (Jvm.Cond.code ({ cls := "FootOutModel", name := "begins", desc := "(I)V" } : Jvm.MethodName) prog_21_method_34_code (3 : Nat) (Option.none : Option Jvm.ClassFile.FieldType)) ∈ lw_all := lw_g (lw_at lw_m8 57 rfl) rfl
theorem q1861 : (Jvm.Cond.methodLink "FootOutModel" (225 : Nat) ({ cls := "FootOutModel", name := "hasTrait", desc := "(I)Z" } : Jvm.MethodName)) ∈ lw_all := lw_g (lw_at lw_m8 58 rfl) rfl
theorem q1862 : (Jvm.Cond.privateMethod ({ cls := "FootOutModel", name := "hasTrait", desc := "(I)Z" } : Jvm.MethodName)) ∈ lw_tbl := lw_at lw_m8 59 rfl
theorem q1863 : (Jvm.Cond.instanceMethod ({ cls := "FootOutModel", name := "hasTrait", desc := "(I)Z" } : Jvm.MethodName)) ∈ lw_all := lw_g (lw_at lw_m8 60 rfl) rfl
theorem q1864 : (Jvm.Cond.code ({ cls := "FootOutModel", name := "hasTrait", desc := "(I)Z" } : Jvm.MethodName) prog_21_method_33_code (2 : Nat) (Option.some Jvm.ClassFile.FieldType.boolean)) ∈ lw_all := lw_g (lw_at lw_m8 61 rfl) rfl
theorem q1865 : (Jvm.Cond.methodLink "FootOutModel" (243 : Nat) ({ cls := "FootOutModel", name := "stopsBy", desc := "(I)I" } : Jvm.MethodName)) ∈ lw_all := lw_g (lw_at lw_m8 62 rfl) rfl
theorem q1866 : (Jvm.Cond.privateMethod ({ cls := "FootOutModel", name := "stopsBy", desc := "(I)I" } : Jvm.MethodName)) ∈ lw_tbl := lw_at lw_m8 63 rfl
theorem q1867 : (Jvm.Cond.instanceMethod ({ cls := "FootOutModel", name := "stopsBy", desc := "(I)I" } : Jvm.MethodName)) ∈ lw_all := lw_g (lw_at lw_m8 64 rfl) rfl
theorem q1868 : (Jvm.Cond.code ({ cls := "FootOutModel", name := "stopsBy", desc := "(I)I" } : Jvm.MethodName) prog_21_method_38_code (3 : Nat) (Option.some Jvm.ClassFile.FieldType.int)) ∈ lw_all := lw_g (lw_at lw_m8 65 rfl) rfl
theorem q1869 : (Jvm.Cond.methodLink "FootOutModel" (236 : Nat) ({ cls := "FootOutModel", name := "isSo", desc := "(II)Z" } : Jvm.MethodName)) ∈ lw_all := lw_g (lw_at lw_m8 66 rfl) rfl
theorem q1870 : (Jvm.Cond.privateMethod ({ cls := "FootOutModel", name := "isSo", desc := "(II)Z" } : Jvm.MethodName)) ∈ lw_tbl := lw_at lw_m8 67 rfl
theorem q1871 : (Jvm.Cond.instanceMethod ({ cls := "FootOutModel", name := "isSo", desc := "(II)Z" } : Jvm.MethodName)) ∈ lw_all := lw_g (lw_at lw_m8 68 rfl) rfl
theorem q1872 : (Jvm.Cond.code ({ cls := "FootOutModel", name := "isSo", desc := "(II)Z" } : Jvm.MethodName) prog_21_method_37_code (6 : Nat) (Option.some Jvm.ClassFile.FieldType.boolean)) ∈ lw_all := lw_g (lw_at lw_m8 69 rfl) rfl
theorem q1873 : (Jvm.Cond.methodLink "FootOutModel" (232 : Nat) ({ cls := "FootOutModel", name := "fact", desc := "(III)Z" } : Jvm.MethodName)) ∈ lw_all := lw_g (lw_at lw_m8 70 rfl) rfl
theorem q1874 : (Jvm.Cond.privateMethod ({ cls := "FootOutModel", name := "fact", desc := "(III)Z" } : Jvm.MethodName)) ∈ lw_tbl := lw_at lw_m8 71 rfl
theorem q1875 : (Jvm.Cond.instanceMethod ({ cls := "FootOutModel", name := "fact", desc := "(III)Z" } : Jvm.MethodName)) ∈ lw_all := lw_g (lw_at lw_m8 72 rfl) rfl
theorem q1876 : (Jvm.Cond.code ({ cls := "FootOutModel", name := "fact", desc := "(III)Z" } : Jvm.MethodName) prog_21_method_36_code (5 : Nat) (Option.some Jvm.ClassFile.FieldType.boolean)) ∈ lw_all := lw_g (lw_at lw_m8 73 rfl) rfl
theorem q1877 : (Jvm.Cond.methodLink "FootOutModel" (228 : Nat) ({ cls := "FootOutModel", name := "isSome", desc := "(IIIII)Z" } : Jvm.MethodName)) ∈ lw_all := lw_g (lw_at lw_m8 74 rfl) rfl
theorem q1878 : (Jvm.Cond.privateMethod ({ cls := "FootOutModel", name := "isSome", desc := "(IIIII)Z" } : Jvm.MethodName)) ∈ lw_tbl := lw_at lw_m8 75 rfl
theorem q1879 : (Jvm.Cond.instanceMethod ({ cls := "FootOutModel", name := "isSome", desc := "(IIIII)Z" } : Jvm.MethodName)) ∈ lw_all := lw_g (lw_at lw_m8 76 rfl) rfl
theorem q1880 : (Jvm.Cond.code ({ cls := "FootOutModel", name := "isSome", desc := "(IIIII)Z" } : Jvm.MethodName) prog_21_method_35_code (8 : Nat) (Option.some Jvm.ClassFile.FieldType.boolean)) ∈ lw_all := lw_g (lw_at lw_m8 77 rfl) rfl
theorem q1882 : (Jvm.Cond.instanceMethod ({ cls := "FootOutModel", name := "can", desc := "(I)I" } : Jvm.MethodName)) ∈ lw_all := lw_g (lw_at lw_m8 79 rfl) rfl
theorem q1883 : (Jvm.Cond.selects "FootOutModel" ({ cls := "FootOutModel", name := "can", desc := "(I)I" } : Jvm.MethodName) ({ cls := "FootOutModel", name := "can", desc := "(I)I" } : Jvm.MethodName)) ∈ lw_all := lw_g (lw_at lw_m8 80 rfl) rfl
theorem q1884 : (Jvm.Cond.code ({ cls := "FootOutModel", name := "can", desc := "(I)I" } : Jvm.MethodName) prog_21_method_41_code (2 : Nat) (Option.some Jvm.ClassFile.FieldType.int)) ∈ lw_all := lw_g (lw_at lw_m8 81 rfl) rfl
theorem q1885 : (Jvm.Cond.methodLink "FootOutModel" (246 : Nat) ({ cls := "FootOutModel", name := "canStop", desc := "(I)Z" } : Jvm.MethodName)) ∈ lw_all := lw_g (lw_at lw_m8 82 rfl) rfl
theorem q1886 : (Jvm.Cond.privateMethod ({ cls := "FootOutModel", name := "canStop", desc := "(I)Z" } : Jvm.MethodName)) ∈ lw_tbl := lw_at lw_m8 83 rfl
theorem q1887 : (Jvm.Cond.instanceMethod ({ cls := "FootOutModel", name := "canStop", desc := "(I)Z" } : Jvm.MethodName)) ∈ lw_all := lw_g (lw_at lw_m8 84 rfl) rfl
theorem q1888 : (Jvm.Cond.code ({ cls := "FootOutModel", name := "canStop", desc := "(I)Z" } : Jvm.MethodName) prog_21_method_39_code (2 : Nat) (Option.some Jvm.ClassFile.FieldType.boolean)) ∈ lw_all := lw_g (lw_at lw_m8 85 rfl) rfl
theorem q1890 : (Jvm.Cond.instanceMethod ({ cls := "FootOutModel", name := "run", desc := "(II)I" } : Jvm.MethodName)) ∈ lw_all := lw_g (lw_at lw_m8 87 rfl) rfl
theorem q1891 : (Jvm.Cond.selects "FootOutModel" ({ cls := "FootOutModel", name := "run", desc := "(II)I" } : Jvm.MethodName) ({ cls := "FootOutModel", name := "run", desc := "(II)I" } : Jvm.MethodName)) ∈ lw_all := lw_g (lw_at lw_m8 88 rfl) rfl
theorem q1892 : (Jvm.Cond.code ({ cls := "FootOutModel", name := "run", desc := "(II)I" } : Jvm.MethodName) prog_21_method_50_code (3 : Nat) (Option.some Jvm.ClassFile.FieldType.int)) ∈ lw_all := lw_g (lw_at lw_m8 89 rfl) rfl
theorem q1893 : (Jvm.Cond.methodLink "FootOutModel" (275 : Nat) ({ cls := "FootOutModel", name := "runs", desc := "(II)V" } : Jvm.MethodName)) ∈ lw_all := lw_g (lw_at lw_m8 90 rfl) rfl
theorem q1894 : (Jvm.Cond.privateMethod ({ cls := "FootOutModel", name := "runs", desc := "(II)V" } : Jvm.MethodName)) ∈ lw_tbl := lw_at lw_m8 91 rfl
theorem q1895 : (Jvm.Cond.instanceMethod ({ cls := "FootOutModel", name := "runs", desc := "(II)V" } : Jvm.MethodName)) ∈ lw_all := lw_g (lw_at lw_m8 92 rfl) rfl
theorem q1896 : (Jvm.Cond.code ({ cls := "FootOutModel", name := "runs", desc := "(II)V" } : Jvm.MethodName) prog_21_method_48_code (3 : Nat) (Option.none : Option Jvm.ClassFile.FieldType)) ∈ lw_all := lw_g (lw_at lw_m8 93 rfl) rfl
theorem q1897 : (Jvm.Cond.methodLink "FootOutModel" (268 : Nat) ({ cls := "FootOutModel", name := "decides", desc := "(Z)I" } : Jvm.MethodName)) ∈ lw_all := lw_g (lw_at lw_m8 94 rfl) rfl
theorem q1898 : (Jvm.Cond.privateMethod ({ cls := "FootOutModel", name := "decides", desc := "(Z)I" } : Jvm.MethodName)) ∈ lw_tbl := lw_at lw_m8 95 rfl
theorem q1899 : (Jvm.Cond.instanceMethod ({ cls := "FootOutModel", name := "decides", desc := "(Z)I" } : Jvm.MethodName)) ∈ lw_all := lw_g (lw_at lw_m8 96 rfl) rfl
theorem q1900 : (Jvm.Cond.code ({ cls := "FootOutModel", name := "decides", desc := "(Z)I" } : Jvm.MethodName) prog_21_method_42_code (4 : Nat) (Option.some Jvm.ClassFile.FieldType.int)) ∈ lw_all := lw_g (lw_at lw_m8 97 rfl) rfl
theorem q1901 : (Jvm.Cond.constant "FootOutModel" (252 : Nat) (1103515245 : Int32)) ∈ lw_all := lw_g (lw_at lw_m8 98 rfl) rfl
theorem q1902 : (Jvm.Cond.methodLink "FootOutModel" (272 : Nat) ({ cls := "FootOutModel", name := "ticks", desc := "()V" } : Jvm.MethodName)) ∈ lw_all := lw_g (lw_at lw_m8 99 rfl) rfl
theorem q1903 : (Jvm.Cond.privateMethod ({ cls := "FootOutModel", name := "ticks", desc := "()V" } : Jvm.MethodName)) ∈ lw_tbl := lw_at lw_m8 100 rfl
theorem q1904 : (Jvm.Cond.instanceMethod ({ cls := "FootOutModel", name := "ticks", desc := "()V" } : Jvm.MethodName)) ∈ lw_all := lw_g (lw_at lw_m8 101 rfl) rfl
theorem q1905 : (Jvm.Cond.code ({ cls := "FootOutModel", name := "ticks", desc := "()V" } : Jvm.MethodName) prog_21_method_47_code (1 : Nat) (Option.none : Option Jvm.ClassFile.FieldType)) ∈ lw_all := lw_g (lw_at lw_m8 102 rfl) rfl
theorem q1906 : (Jvm.Cond.methodLink "FootOutModel" (262 : Nat) ({ cls := "FootOutModel", name := "isFree", desc := "(I)Z" } : Jvm.MethodName)) ∈ lw_all := lw_g (lw_at lw_m8 103 rfl) rfl
theorem q1907 : (Jvm.Cond.privateMethod ({ cls := "FootOutModel", name := "isFree", desc := "(I)Z" } : Jvm.MethodName)) ∈ lw_tbl := lw_at lw_m8 104 rfl
theorem q1908 : (Jvm.Cond.instanceMethod ({ cls := "FootOutModel", name := "isFree", desc := "(I)Z" } : Jvm.MethodName)) ∈ lw_all := lw_g (lw_at lw_m8 105 rfl) rfl
theorem q1909 : (Jvm.Cond.code ({ cls := "FootOutModel", name := "isFree", desc := "(I)Z" } : Jvm.MethodName) prog_21_method_44_code (3 : Nat) (Option.some Jvm.ClassFile.FieldType.boolean)) ∈ lw_all := lw_g (lw_at lw_m8 106 rfl) rfl
theorem q1910 : (Jvm.Cond.methodLink "FootOutModel" (253 : Nat) ({ cls := "FootOutModel", name := "isHidden", desc := "(I)Z" } : Jvm.MethodName)) ∈ lw_all := lw_g (lw_at lw_m8 107 rfl) rfl
theorem q1911 : (Jvm.Cond.privateMethod ({ cls := "FootOutModel", name := "isHidden", desc := "(I)Z" } : Jvm.MethodName)) ∈ lw_tbl := lw_at lw_m8 108 rfl
theorem q1912 : (Jvm.Cond.instanceMethod ({ cls := "FootOutModel", name := "isHidden", desc := "(I)Z" } : Jvm.MethodName)) ∈ lw_all := lw_g (lw_at lw_m8 109 rfl) rfl
theorem q1913 : (Jvm.Cond.code ({ cls := "FootOutModel", name := "isHidden", desc := "(I)Z" } : Jvm.MethodName) prog_21_method_43_code (3 : Nat) (Option.some Jvm.ClassFile.FieldType.boolean)) ∈ lw_all := lw_g (lw_at lw_m8 110 rfl) rfl
theorem q1914 : (Jvm.Cond.methodLink "FootOutModel" (265 : Nat) ({ cls := "FootOutModel", name := "carsGo", desc := "()V" } : Jvm.MethodName)) ∈ lw_all := lw_g (lw_at lw_m8 111 rfl) rfl
theorem q1915 : (Jvm.Cond.privateMethod ({ cls := "FootOutModel", name := "carsGo", desc := "()V" } : Jvm.MethodName)) ∈ lw_tbl := lw_at lw_m8 112 rfl
theorem q1916 : (Jvm.Cond.instanceMethod ({ cls := "FootOutModel", name := "carsGo", desc := "()V" } : Jvm.MethodName)) ∈ lw_all := lw_g (lw_at lw_m8 113 rfl) rfl
theorem q1917 : (Jvm.Cond.code ({ cls := "FootOutModel", name := "carsGo", desc := "()V" } : Jvm.MethodName) prog_21_method_46_code (5 : Nat) (Option.none : Option Jvm.ClassFile.FieldType)) ∈ lw_all := lw_g (lw_at lw_m8 114 rfl) rfl
theorem q1918 : (Jvm.Cond.methodLink "FootOutModel" (259 : Nat) ({ cls := "FootOutModel", name := "goesOn", desc := "(I)V" } : Jvm.MethodName)) ∈ lw_all := lw_g (lw_at lw_m8 115 rfl) rfl
theorem q1919 : (Jvm.Cond.privateMethod ({ cls := "FootOutModel", name := "goesOn", desc := "(I)V" } : Jvm.MethodName)) ∈ lw_tbl := lw_at lw_m8 116 rfl
theorem q1920 : (Jvm.Cond.instanceMethod ({ cls := "FootOutModel", name := "goesOn", desc := "(I)V" } : Jvm.MethodName)) ∈ lw_all := lw_g (lw_at lw_m8 117 rfl) rfl
theorem q1921 : (Jvm.Cond.code ({ cls := "FootOutModel", name := "goesOn", desc := "(I)V" } : Jvm.MethodName) prog_21_method_45_code (6 : Nat) (Option.none : Option Jvm.ClassFile.FieldType)) ∈ lw_all := lw_g (lw_at lw_m8 118 rfl) rfl
theorem q1922 : (Jvm.Cond.methodLink "FootOutModel" (278 : Nat) ({ cls := "FootOutModel", name := "stopped", desc := "()I" } : Jvm.MethodName)) ∈ lw_all := lw_g (lw_at lw_m8 119 rfl) rfl
theorem q1923 : (Jvm.Cond.privateMethod ({ cls := "FootOutModel", name := "stopped", desc := "()I" } : Jvm.MethodName)) ∈ lw_tbl := lw_at lw_m8 120 rfl
theorem q1924 : (Jvm.Cond.instanceMethod ({ cls := "FootOutModel", name := "stopped", desc := "()I" } : Jvm.MethodName)) ∈ lw_all := lw_g (lw_at lw_m8 121 rfl) rfl
theorem q1925 : (Jvm.Cond.code ({ cls := "FootOutModel", name := "stopped", desc := "()I" } : Jvm.MethodName) prog_21_method_49_code (3 : Nat) (Option.some Jvm.ClassFile.FieldType.int)) ∈ lw_all := lw_g (lw_at lw_m8 122 rfl) rfl
theorem q1927 : (Jvm.Cond.instanceMethod ({ cls := "FootOutModel", name := "watch", desc := "(IIII)I" } : Jvm.MethodName)) ∈ lw_all := lw_g (lw_at lw_m8 124 rfl) rfl
theorem q1928 : (Jvm.Cond.selects "FootOutModel" ({ cls := "FootOutModel", name := "watch", desc := "(IIII)I" } : Jvm.MethodName) ({ cls := "FootOutModel", name := "watch", desc := "(IIII)I" } : Jvm.MethodName)) ∈ lw_all := lw_g (lw_at lw_m8 125 rfl) rfl
theorem q1929 : (Jvm.Cond.code ({ cls := "FootOutModel", name := "watch", desc := "(IIII)I" } : Jvm.MethodName) prog_21_method_51_code (5 : Nat) (Option.some Jvm.ClassFile.FieldType.int)) ∈ lw_all := lw_g (lw_at lw_m8 126 rfl) rfl
theorem q1930 : (Jvm.Cond.constantLong "FootOutModel" (281 : Nat) (99 : Int64)) ∈ lw_all := lw_g (lw_at lw_m8 127 rfl) rfl
theorem q1931 : (Jvm.Cond.methodLink "FootOutModel" (283 : Nat) ({ cls := "FootOutModel", name := "none", desc := "(I)I" } : Jvm.MethodName)) ∈ lw_all := lw_g (lw_at lw_m8 128 rfl) rfl
theorem q1932 : (Jvm.Cond.privateMethod ({ cls := "FootOutModel", name := "none", desc := "(I)I" } : Jvm.MethodName)) ∈ lw_tbl := lw_at lw_m8 129 rfl
theorem q1933 : (Jvm.Cond.instanceMethod ({ cls := "FootOutModel", name := "none", desc := "(I)I" } : Jvm.MethodName)) ∈ lw_all := lw_g (lw_at lw_m8 130 rfl) rfl
theorem q1934 : (Jvm.Cond.code ({ cls := "FootOutModel", name := "none", desc := "(I)I" } : Jvm.MethodName) prog_21_method_3_code (2 : Nat) (Option.some Jvm.ClassFile.FieldType.int)) ∈ lw_all := lw_g (lw_at lw_m8 131 rfl) rfl
theorem q1936 : (Jvm.Cond.instanceMethod ({ cls := "FootOutModel", name := "stands", desc := "(II)I" } : Jvm.MethodName)) ∈ lw_all := lw_g (lw_at lw_m8 133 rfl) rfl
theorem q1937 : (Jvm.Cond.selects "FootOutModel" ({ cls := "FootOutModel", name := "stands", desc := "(II)I" } : Jvm.MethodName) ({ cls := "FootOutModel", name := "stands", desc := "(II)I" } : Jvm.MethodName)) ∈ lw_all := lw_g (lw_at lw_m8 134 rfl) rfl
theorem q1938 : (Jvm.Cond.code ({ cls := "FootOutModel", name := "stands", desc := "(II)I" } : Jvm.MethodName) prog_21_method_52_code (3 : Nat) (Option.some Jvm.ClassFile.FieldType.int)) ∈ lw_all := lw_g (lw_at lw_m8 135 rfl) rfl
theorem q1940 : (Jvm.Cond.instanceMethod ({ cls := "FootOutModel", name := "tries", desc := "(III)I" } : Jvm.MethodName)) ∈ lw_all := lw_g (lw_at lw_m8 137 rfl) rfl
theorem q1941 : (Jvm.Cond.selects "FootOutModel" ({ cls := "FootOutModel", name := "tries", desc := "(III)I" } : Jvm.MethodName) ({ cls := "FootOutModel", name := "tries", desc := "(III)I" } : Jvm.MethodName)) ∈ lw_all := lw_g (lw_at lw_m8 138 rfl) rfl
theorem q1942 : (Jvm.Cond.code ({ cls := "FootOutModel", name := "tries", desc := "(III)I" } : Jvm.MethodName) prog_21_method_53_code (6 : Nat) (Option.some Jvm.ClassFile.FieldType.int)) ∈ lw_all := lw_g (lw_at lw_m8 139 rfl) rfl
theorem q1944 : (Jvm.Cond.instanceMethod ({ cls := "FootOutModel", name := "odds", desc := "(I)J" } : Jvm.MethodName)) ∈ lw_all := lw_g (lw_at lw_m8 141 rfl) rfl
theorem q1945 : (Jvm.Cond.selects "FootOutModel" ({ cls := "FootOutModel", name := "odds", desc := "(I)J" } : Jvm.MethodName) ({ cls := "FootOutModel", name := "odds", desc := "(I)J" } : Jvm.MethodName)) ∈ lw_all := lw_g (lw_at lw_m8 142 rfl) rfl
theorem q1946 : (Jvm.Cond.code ({ cls := "FootOutModel", name := "odds", desc := "(I)J" } : Jvm.MethodName) prog_21_method_57_code (2 : Nat) (Option.some Jvm.ClassFile.FieldType.long)) ∈ lw_all := lw_g (lw_at lw_m8 143 rfl) rfl
theorem q1947 : (Jvm.Cond.methodLink "FootOutModel" (296 : Nat) ({ cls := "FootOutModel", name := "worksOdds", desc := "()V" } : Jvm.MethodName)) ∈ lw_all := lw_g (lw_at lw_m8 144 rfl) rfl
theorem q1948 : (Jvm.Cond.privateMethod ({ cls := "FootOutModel", name := "worksOdds", desc := "()V" } : Jvm.MethodName)) ∈ lw_tbl := lw_at lw_m8 145 rfl
theorem q1949 : (Jvm.Cond.instanceMethod ({ cls := "FootOutModel", name := "worksOdds", desc := "()V" } : Jvm.MethodName)) ∈ lw_all := lw_g (lw_at lw_m8 146 rfl) rfl
theorem q1950 : (Jvm.Cond.code ({ cls := "FootOutModel", name := "worksOdds", desc := "()V" } : Jvm.MethodName) prog_21_method_56_code (2 : Nat) (Option.none : Option Jvm.ClassFile.FieldType)) ∈ lw_all := lw_g (lw_at lw_m8 147 rfl) rfl
theorem q1951 : (Jvm.Cond.methodLink "FootOutModel" (292 : Nat) ({ cls := "FootOutModel", name := "allParts", desc := "()J" } : Jvm.MethodName)) ∈ lw_all := lw_g (lw_at lw_m8 148 rfl) rfl
theorem q1952 : (Jvm.Cond.privateMethod ({ cls := "FootOutModel", name := "allParts", desc := "()J" } : Jvm.MethodName)) ∈ lw_tbl := lw_at lw_m8 149 rfl
theorem q1953 : (Jvm.Cond.instanceMethod ({ cls := "FootOutModel", name := "allParts", desc := "()J" } : Jvm.MethodName)) ∈ lw_all := lw_g (lw_at lw_m8 150 rfl) rfl
theorem q1954 : (Jvm.Cond.code ({ cls := "FootOutModel", name := "allParts", desc := "()J" } : Jvm.MethodName) prog_21_method_54_code (4 : Nat) (Option.some Jvm.ClassFile.FieldType.long)) ∈ lw_all := lw_g (lw_at lw_m8 151 rfl) rfl
theorem q1955 : (Jvm.Cond.constantLong "FootOutModel" (286 : Nat) (100 : Int64)) ∈ lw_all := lw_g (lw_at lw_m8 152 rfl) rfl
theorem q1956 : (Jvm.Cond.methodLink "FootOutModel" (288 : Nat) ({ cls := "FootOutModel", name := "branches", desc := "(IJ)V" } : Jvm.MethodName)) ∈ lw_all := lw_g (lw_at lw_m8 153 rfl) rfl
theorem q1957 : (Jvm.Cond.privateMethod ({ cls := "FootOutModel", name := "branches", desc := "(IJ)V" } : Jvm.MethodName)) ∈ lw_tbl := lw_at lw_m8 154 rfl
theorem q1958 : (Jvm.Cond.instanceMethod ({ cls := "FootOutModel", name := "branches", desc := "(IJ)V" } : Jvm.MethodName)) ∈ lw_all := lw_g (lw_at lw_m8 155 rfl) rfl
theorem q1959 : (Jvm.Cond.code ({ cls := "FootOutModel", name := "branches", desc := "(IJ)V" } : Jvm.MethodName) prog_21_method_55_code (7 : Nat) (Option.none : Option Jvm.ClassFile.FieldType)) ∈ lw_all := lw_g (lw_at lw_m8 156 rfl) rfl
theorem q1961 : (Jvm.Cond.instanceMethod ({ cls := "FootOutModel", name := "helps", desc := "(I)J" } : Jvm.MethodName)) ∈ lw_all := lw_g (lw_at lw_m8 158 rfl) rfl
theorem q1962 : (Jvm.Cond.selects "FootOutModel" ({ cls := "FootOutModel", name := "helps", desc := "(I)J" } : Jvm.MethodName) ({ cls := "FootOutModel", name := "helps", desc := "(I)J" } : Jvm.MethodName)) ∈ lw_all := lw_g (lw_at lw_m8 159 rfl) rfl
theorem q1963 : (Jvm.Cond.code ({ cls := "FootOutModel", name := "helps", desc := "(I)J" } : Jvm.MethodName) prog_21_method_59_code (4 : Nat) (Option.some Jvm.ClassFile.FieldType.long)) ∈ lw_all := lw_g (lw_at lw_m8 160 rfl) rfl
theorem q1964 : (Jvm.Cond.methodLink "FootOutModel" (299 : Nat) ({ cls := "FootOutModel", name := "overIf", desc := "(I)J" } : Jvm.MethodName)) ∈ lw_all := lw_g (lw_at lw_m8 161 rfl) rfl
theorem q1965 : (Jvm.Cond.privateMethod ({ cls := "FootOutModel", name := "overIf", desc := "(I)J" } : Jvm.MethodName)) ∈ lw_tbl := lw_at lw_m8 162 rfl
theorem q1966 : (Jvm.Cond.instanceMethod ({ cls := "FootOutModel", name := "overIf", desc := "(I)J" } : Jvm.MethodName)) ∈ lw_all := lw_g (lw_at lw_m8 163 rfl) rfl
theorem q1967 : (Jvm.Cond.code ({ cls := "FootOutModel", name := "overIf", desc := "(I)J" } : Jvm.MethodName) prog_21_method_58_code (3 : Nat) (Option.some Jvm.ClassFile.FieldType.long)) ∈ lw_all := lw_g (lw_at lw_m8 164 rfl) rfl
theorem q1969 : (Jvm.Cond.instanceMethod ({ cls := "FootOutModel", name := "best", desc := "(I)I" } : Jvm.MethodName)) ∈ lw_all := lw_g (lw_at lw_m8 166 rfl) rfl
theorem q1970 : (Jvm.Cond.selects "FootOutModel" ({ cls := "FootOutModel", name := "best", desc := "(I)I" } : Jvm.MethodName) ({ cls := "FootOutModel", name := "best", desc := "(I)I" } : Jvm.MethodName)) ∈ lw_all := lw_g (lw_at lw_m8 167 rfl) rfl
theorem q1971 : (Jvm.Cond.code ({ cls := "FootOutModel", name := "best", desc := "(I)I" } : Jvm.MethodName) prog_21_method_61_code (8 : Nat) (Option.some Jvm.ClassFile.FieldType.int)) ∈ lw_all := lw_g (lw_at lw_m8 168 rfl) rfl
theorem q1972 : (Jvm.Cond.methodLink "FootOutModel" (303 : Nat) ({ cls := "FootOutModel", name := "bitsOf", desc := "(I)I" } : Jvm.MethodName)) ∈ lw_all := lw_g (lw_at lw_m8 169 rfl) rfl
theorem q1973 : (Jvm.Cond.static ({ cls := "FootOutModel", name := "bitsOf", desc := "(I)I" } : Jvm.MethodName)) ∈ lw_all := lw_g (lw_at lw_m8 170 rfl) rfl
theorem q1974 : (Jvm.Cond.code ({ cls := "FootOutModel", name := "bitsOf", desc := "(I)I" } : Jvm.MethodName) prog_21_method_60_code (3 : Nat) (Option.some Jvm.ClassFile.FieldType.int)) ∈ lw_all := lw_g (lw_at lw_m8 171 rfl) rfl
theorem q1976 : (Jvm.Cond.instanceMethod ({ cls := "FootOutModel", name := "back", desc := "(I)I" } : Jvm.MethodName)) ∈ lw_all := lw_g (lw_at lw_m8 173 rfl) rfl
theorem q1977 : (Jvm.Cond.selects "FootOutModel" ({ cls := "FootOutModel", name := "back", desc := "(I)I" } : Jvm.MethodName) ({ cls := "FootOutModel", name := "back", desc := "(I)I" } : Jvm.MethodName)) ∈ lw_all := lw_g (lw_at lw_m8 174 rfl) rfl
theorem q1978 : (Jvm.Cond.code ({ cls := "FootOutModel", name := "back", desc := "(I)I" } : Jvm.MethodName) prog_21_method_62_code (8 : Nat) (Option.some Jvm.ClassFile.FieldType.int)) ∈ lw_all := lw_g (lw_at lw_m8 175 rfl) rfl
theorem q1979 : (Jvm.Cond.constantLong "FootOutModel" (306 : Nat) (1000 : Int64)) ∈ lw_all := lw_g (lw_at lw_m8 176 rfl) rfl
theorem q1981 : (Jvm.Cond.instanceMethod ({ cls := "FootOutModel", name := "wise", desc := "(I)I" } : Jvm.MethodName)) ∈ lw_all := lw_g (lw_at lw_m8 178 rfl) rfl
theorem q1982 : (Jvm.Cond.selects "FootOutModel" ({ cls := "FootOutModel", name := "wise", desc := "(I)I" } : Jvm.MethodName) ({ cls := "FootOutModel", name := "wise", desc := "(I)I" } : Jvm.MethodName)) ∈ lw_all := lw_g (lw_at lw_m8 179 rfl) rfl
theorem q1983 : (Jvm.Cond.code ({ cls := "FootOutModel", name := "wise", desc := "(I)I" } : Jvm.MethodName) prog_21_method_63_code (8 : Nat) (Option.some Jvm.ClassFile.FieldType.int)) ∈ lw_all := lw_g (lw_at lw_m8 180 rfl) rfl
theorem q1984 : (Jvm.Cond.constantLong "FootOutModel" (308 : Nat) (-1 : Int64)) ∈ lw_all := lw_g (lw_at lw_m8 181 rfl) rfl
theorem q1986 : (Jvm.Cond.instanceMethod ({ cls := "FootOutModel", name := "blame", desc := "(II)J" } : Jvm.MethodName)) ∈ lw_all := lw_g (lw_at lw_m8 183 rfl) rfl
theorem q1987 : (Jvm.Cond.selects "FootOutModel" ({ cls := "FootOutModel", name := "blame", desc := "(II)J" } : Jvm.MethodName) ({ cls := "FootOutModel", name := "blame", desc := "(II)J" } : Jvm.MethodName)) ∈ lw_all := lw_g (lw_at lw_m8 184 rfl) rfl
theorem q1988 : (Jvm.Cond.code ({ cls := "FootOutModel", name := "blame", desc := "(II)J" } : Jvm.MethodName) prog_21_method_64_code (3 : Nat) (Option.some Jvm.ClassFile.FieldType.long)) ∈ lw_all := lw_g (lw_at lw_m8 185 rfl) rfl
theorem q1990 : (Jvm.Cond.instanceMethod ({ cls := "FootOutModel", name := "mean", desc := "(I)J" } : Jvm.MethodName)) ∈ lw_all := lw_g (lw_at lw_m8 187 rfl) rfl
theorem q1991 : (Jvm.Cond.selects "FootOutModel" ({ cls := "FootOutModel", name := "mean", desc := "(I)J" } : Jvm.MethodName) ({ cls := "FootOutModel", name := "mean", desc := "(I)J" } : Jvm.MethodName)) ∈ lw_all := lw_g (lw_at lw_m8 188 rfl) rfl
theorem q1992 : (Jvm.Cond.code ({ cls := "FootOutModel", name := "mean", desc := "(I)J" } : Jvm.MethodName) prog_21_method_65_code (4 : Nat) (Option.some Jvm.ClassFile.FieldType.long)) ∈ lw_all := lw_g (lw_at lw_m8 189 rfl) rfl
theorem q1993 : (Jvm.Cond.methodLink "FootOutModel" (310 : Nat) ({ cls := "FootOutModel", name := "common", desc := "(JJ)J" } : Jvm.MethodName)) ∈ lw_all := lw_g (lw_at lw_m8 190 rfl) rfl
theorem q1994 : (Jvm.Cond.static ({ cls := "FootOutModel", name := "common", desc := "(JJ)J" } : Jvm.MethodName)) ∈ lw_all := lw_g (lw_at lw_m8 191 rfl) rfl
theorem q1995 : (Jvm.Cond.code ({ cls := "FootOutModel", name := "common", desc := "(JJ)J" } : Jvm.MethodName) prog_21_method_74_code (10 : Nat) (Option.some Jvm.ClassFile.FieldType.long)) ∈ lw_all := lw_g (lw_at lw_m8 192 rfl) rfl
theorem q1997 : (Jvm.Cond.instanceMethod ({ cls := "FootOutModel", name := "repeals", desc := "(I)J" } : Jvm.MethodName)) ∈ lw_all := lw_g (lw_at lw_m8 194 rfl) rfl
theorem q1998 : (Jvm.Cond.selects "FootOutModel" ({ cls := "FootOutModel", name := "repeals", desc := "(I)J" } : Jvm.MethodName) ({ cls := "FootOutModel", name := "repeals", desc := "(I)J" } : Jvm.MethodName)) ∈ lw_all := lw_g (lw_at lw_m8 195 rfl) rfl
theorem q1999 : (Jvm.Cond.code ({ cls := "FootOutModel", name := "repeals", desc := "(I)J" } : Jvm.MethodName) prog_21_method_66_code (4 : Nat) (Option.some Jvm.ClassFile.FieldType.long)) ∈ lw_all := lw_g (lw_at lw_m8 196 rfl) rfl
theorem q2001 : (Jvm.Cond.instanceMethod ({ cls := "FootOutModel", name := "absent", desc := "(I)J" } : Jvm.MethodName)) ∈ lw_all := lw_g (lw_at lw_m8 198 rfl) rfl
theorem q2002 : (Jvm.Cond.selects "FootOutModel" ({ cls := "FootOutModel", name := "absent", desc := "(I)J" } : Jvm.MethodName) ({ cls := "FootOutModel", name := "absent", desc := "(I)J" } : Jvm.MethodName)) ∈ lw_all := lw_g (lw_at lw_m8 199 rfl) rfl
theorem q2003 : (Jvm.Cond.code ({ cls := "FootOutModel", name := "absent", desc := "(I)J" } : Jvm.MethodName) prog_21_method_67_code (4 : Nat) (Option.some Jvm.ClassFile.FieldType.long)) ∈ lw_all := lw_g (lw_at lw_m8 200 rfl) rfl
theorem q2005 : (Jvm.Cond.instanceMethod ({ cls := "FootOutModel", name := "margin", desc := "(I)I" } : Jvm.MethodName)) ∈ lw_all := lw_g (lw_at lw_m8 202 rfl) rfl
theorem q2006 : (Jvm.Cond.selects "FootOutModel" ({ cls := "FootOutModel", name := "margin", desc := "(I)I" } : Jvm.MethodName) ({ cls := "FootOutModel", name := "margin", desc := "(I)I" } : Jvm.MethodName)) ∈ lw_all := lw_g (lw_at lw_m8 203 rfl) rfl
theorem q2007 : (Jvm.Cond.code ({ cls := "FootOutModel", name := "margin", desc := "(I)I" } : Jvm.MethodName) prog_21_method_68_code (4 : Nat) (Option.some Jvm.ClassFile.FieldType.int)) ∈ lw_all := lw_g (lw_at lw_m8 204 rfl) rfl
theorem q2009 : (Jvm.Cond.instanceMethod ({ cls := "FootOutModel", name := "place", desc := "(ZIIII)I" } : Jvm.MethodName)) ∈ lw_all := lw_g (lw_at lw_m8 206 rfl) rfl
theorem q2010 : (Jvm.Cond.selects "FootOutModel" ({ cls := "FootOutModel", name := "place", desc := "(ZIIII)I" } : Jvm.MethodName) ({ cls := "FootOutModel", name := "place", desc := "(ZIIII)I" } : Jvm.MethodName)) ∈ lw_all := lw_g (lw_at lw_m8 207 rfl) rfl
theorem q2011 : (Jvm.Cond.code ({ cls := "FootOutModel", name := "place", desc := "(ZIIII)I" } : Jvm.MethodName) prog_21_method_69_code (7 : Nat) (Option.some Jvm.ClassFile.FieldType.int)) ∈ lw_all := lw_g (lw_at lw_m8 208 rfl) rfl
theorem q2012 : (Jvm.Cond.constantLong "FootOutModel" (314 : Nat) (300 : Int64)) ∈ lw_all := lw_g (lw_at lw_m8 209 rfl) rfl
theorem q2014 : (Jvm.Cond.instanceMethod ({ cls := "FootOutModel", name := "behind", desc := "(II)I" } : Jvm.MethodName)) ∈ lw_all := lw_g (lw_at lw_m8 211 rfl) rfl
theorem q2015 : (Jvm.Cond.selects "FootOutModel" ({ cls := "FootOutModel", name := "behind", desc := "(II)I" } : Jvm.MethodName) ({ cls := "FootOutModel", name := "behind", desc := "(II)I" } : Jvm.MethodName)) ∈ lw_all := lw_g (lw_at lw_m8 212 rfl) rfl
theorem q2016 : (Jvm.Cond.code ({ cls := "FootOutModel", name := "behind", desc := "(II)I" } : Jvm.MethodName) prog_21_method_71_code (4 : Nat) (Option.some Jvm.ClassFile.FieldType.int)) ∈ lw_all := lw_g (lw_at lw_m8 213 rfl) rfl
theorem q2017 : (Jvm.Cond.methodLink "FootOutModel" (316 : Nat) ({ cls := "FootOutModel", name := "isPlace", desc := "(I)Z" } : Jvm.MethodName)) ∈ lw_all := lw_g (lw_at lw_m8 214 rfl) rfl
theorem q2018 : (Jvm.Cond.privateMethod ({ cls := "FootOutModel", name := "isPlace", desc := "(I)Z" } : Jvm.MethodName)) ∈ lw_tbl := lw_at lw_m8 215 rfl
theorem q2019 : (Jvm.Cond.instanceMethod ({ cls := "FootOutModel", name := "isPlace", desc := "(I)Z" } : Jvm.MethodName)) ∈ lw_all := lw_g (lw_at lw_m8 216 rfl) rfl
theorem q2020 : (Jvm.Cond.code ({ cls := "FootOutModel", name := "isPlace", desc := "(I)Z" } : Jvm.MethodName) prog_21_method_70_code (2 : Nat) (Option.some Jvm.ClassFile.FieldType.boolean)) ∈ lw_all := lw_g (lw_at lw_m8 217 rfl) rfl
theorem q2021 : (Jvm.Cond.constantLong "FootOutModel" (319 : Nat) (600 : Int64)) ∈ lw_all := lw_g (lw_at lw_m8 218 rfl) rfl
theorem q2023 : (Jvm.Cond.instanceMethod ({ cls := "FootOutModel", name := "at", desc := "(II)I" } : Jvm.MethodName)) ∈ lw_all := lw_g (lw_at lw_m8 220 rfl) rfl
theorem q2024 : (Jvm.Cond.selects "FootOutModel" ({ cls := "FootOutModel", name := "at", desc := "(II)I" } : Jvm.MethodName) ({ cls := "FootOutModel", name := "at", desc := "(II)I" } : Jvm.MethodName)) ∈ lw_all := lw_g (lw_at lw_m8 221 rfl) rfl
theorem q2025 : (Jvm.Cond.code ({ cls := "FootOutModel", name := "at", desc := "(II)I" } : Jvm.MethodName) prog_21_method_72_code (3 : Nat) (Option.some Jvm.ClassFile.FieldType.int)) ∈ lw_all := lw_g (lw_at lw_m8 222 rfl) rfl
theorem q2027 : (Jvm.Cond.instanceMethod ({ cls := "FootOutModel", name := "rate", desc := "(ZI)I" } : Jvm.MethodName)) ∈ lw_all := lw_g (lw_at lw_m8 224 rfl) rfl
theorem q2028 : (Jvm.Cond.selects "FootOutModel" ({ cls := "FootOutModel", name := "rate", desc := "(ZI)I" } : Jvm.MethodName) ({ cls := "FootOutModel", name := "rate", desc := "(ZI)I" } : Jvm.MethodName)) ∈ lw_all := lw_g (lw_at lw_m8 225 rfl) rfl
theorem q2029 : (Jvm.Cond.code ({ cls := "FootOutModel", name := "rate", desc := "(ZI)I" } : Jvm.MethodName) prog_21_method_75_code (10 : Nat) (Option.some Jvm.ClassFile.FieldType.int)) ∈ lw_all := lw_g (lw_at lw_m8 226 rfl) rfl
theorem q2030 : (Jvm.Cond.methodLink "FootOutModel" (321 : Nat) ({ cls := "FootOutModel", name := "sumOf", desc := "(II)J" } : Jvm.MethodName)) ∈ lw_all := lw_g (lw_at lw_m8 227 rfl) rfl
theorem q2031 : (Jvm.Cond.privateMethod ({ cls := "FootOutModel", name := "sumOf", desc := "(II)J" } : Jvm.MethodName)) ∈ lw_tbl := lw_at lw_m8 228 rfl
theorem q2032 : (Jvm.Cond.instanceMethod ({ cls := "FootOutModel", name := "sumOf", desc := "(II)J" } : Jvm.MethodName)) ∈ lw_all := lw_g (lw_at lw_m8 229 rfl) rfl
theorem q2033 : (Jvm.Cond.code ({ cls := "FootOutModel", name := "sumOf", desc := "(II)J" } : Jvm.MethodName) prog_21_method_73_code (6 : Nat) (Option.some Jvm.ClassFile.FieldType.long)) ∈ lw_all := lw_g (lw_at lw_m8 230 rfl) rfl
theorem q2035 : (Jvm.Cond.instanceMethod ({ cls := "FootOutModel", name := "parted", desc := "()I" } : Jvm.MethodName)) ∈ lw_all := lw_g (lw_at lw_m8 232 rfl) rfl
theorem q2036 : (Jvm.Cond.selects "FootOutModel" ({ cls := "FootOutModel", name := "parted", desc := "()I" } : Jvm.MethodName) ({ cls := "FootOutModel", name := "parted", desc := "()I" } : Jvm.MethodName)) ∈ lw_all := lw_g (lw_at lw_m8 233 rfl) rfl
theorem q2037 : (Jvm.Cond.code ({ cls := "FootOutModel", name := "parted", desc := "()I" } : Jvm.MethodName) prog_21_method_78_code (5 : Nat) (Option.some Jvm.ClassFile.FieldType.int)) ∈ lw_all := lw_g (lw_at lw_m8 234 rfl) rfl
theorem q2038 : (Jvm.Cond.methodLink "FootOutModel" (325 : Nat) ({ cls := "FootOutModel", name := "partedAbove", desc := "(I)J" } : Jvm.MethodName)) ∈ lw_all := lw_g (lw_at lw_m8 235 rfl) rfl
theorem q2039 : (Jvm.Cond.privateMethod ({ cls := "FootOutModel", name := "partedAbove", desc := "(I)J" } : Jvm.MethodName)) ∈ lw_tbl := lw_at lw_m8 236 rfl
theorem q2040 : (Jvm.Cond.instanceMethod ({ cls := "FootOutModel", name := "partedAbove", desc := "(I)J" } : Jvm.MethodName)) ∈ lw_all := lw_g (lw_at lw_m8 237 rfl) rfl
theorem q2041 : (Jvm.Cond.code ({ cls := "FootOutModel", name := "partedAbove", desc := "(I)J" } : Jvm.MethodName) prog_21_method_76_code (10 : Nat) (Option.some Jvm.ClassFile.FieldType.long)) ∈ lw_all := lw_g (lw_at lw_m8 238 rfl) rfl
theorem q2042 : (Jvm.Cond.methodLink "FootOutModel" (328 : Nat) ({ cls := "FootOutModel", name := "partedBelow", desc := "(I)J" } : Jvm.MethodName)) ∈ lw_all := lw_g (lw_at lw_m8 239 rfl) rfl
theorem q2043 : (Jvm.Cond.privateMethod ({ cls := "FootOutModel", name := "partedBelow", desc := "(I)J" } : Jvm.MethodName)) ∈ lw_tbl := lw_at lw_m9 0 rfl
theorem q2044 : (Jvm.Cond.instanceMethod ({ cls := "FootOutModel", name := "partedBelow", desc := "(I)J" } : Jvm.MethodName)) ∈ lw_all := lw_g (lw_at lw_m9 1 rfl) rfl
theorem q2045 : (Jvm.Cond.code ({ cls := "FootOutModel", name := "partedBelow", desc := "(I)J" } : Jvm.MethodName) prog_21_method_77_code (6 : Nat) (Option.some Jvm.ClassFile.FieldType.long)) ∈ lw_all := lw_g (lw_at lw_m9 2 rfl) rfl
theorem q2047 : (Jvm.Cond.instanceMethod ({ cls := "FootOutModel", name := "worst", desc := "(II)I" } : Jvm.MethodName)) ∈ lw_all := lw_g (lw_at lw_m9 4 rfl) rfl
theorem q2048 : (Jvm.Cond.selects "FootOutModel" ({ cls := "FootOutModel", name := "worst", desc := "(II)I" } : Jvm.MethodName) ({ cls := "FootOutModel", name := "worst", desc := "(II)I" } : Jvm.MethodName)) ∈ lw_all := lw_g (lw_at lw_m9 5 rfl) rfl
theorem q2049 : (Jvm.Cond.code ({ cls := "FootOutModel", name := "worst", desc := "(II)I" } : Jvm.MethodName) prog_21_method_83_code (4 : Nat) (Option.some Jvm.ClassFile.FieldType.int)) ∈ lw_all := lw_g (lw_at lw_m9 6 rfl) rfl
theorem q2050 : (Jvm.Cond.constant "FootOutModel" (334 : Nat) (-1000000 : Int32)) ∈ lw_all := lw_g (lw_at lw_m9 7 rfl) rfl
theorem q2051 : (Jvm.Cond.methodLink "FootOutModel" (335 : Nat) ({ cls := "FootOutModel", name := "worstOf", desc := "(I)I" } : Jvm.MethodName)) ∈ lw_all := lw_g (lw_at lw_m9 8 rfl) rfl
theorem q2052 : (Jvm.Cond.privateMethod ({ cls := "FootOutModel", name := "worstOf", desc := "(I)I" } : Jvm.MethodName)) ∈ lw_tbl := lw_at lw_m9 9 rfl
theorem q2053 : (Jvm.Cond.instanceMethod ({ cls := "FootOutModel", name := "worstOf", desc := "(I)I" } : Jvm.MethodName)) ∈ lw_all := lw_g (lw_at lw_m9 10 rfl) rfl
theorem q2054 : (Jvm.Cond.code ({ cls := "FootOutModel", name := "worstOf", desc := "(I)I" } : Jvm.MethodName) prog_21_method_80_code (6 : Nat) (Option.some Jvm.ClassFile.FieldType.int)) ∈ lw_all := lw_g (lw_at lw_m9 11 rfl) rfl
theorem q2055 : (Jvm.Cond.methodLink "FootOutModel" (331 : Nat) ({ cls := "FootOutModel", name := "hurtAt", desc := "(I)I" } : Jvm.MethodName)) ∈ lw_all := lw_g (lw_at lw_m9 12 rfl) rfl
theorem q2056 : (Jvm.Cond.privateMethod ({ cls := "FootOutModel", name := "hurtAt", desc := "(I)I" } : Jvm.MethodName)) ∈ lw_tbl := lw_at lw_m9 13 rfl
theorem q2057 : (Jvm.Cond.instanceMethod ({ cls := "FootOutModel", name := "hurtAt", desc := "(I)I" } : Jvm.MethodName)) ∈ lw_all := lw_g (lw_at lw_m9 14 rfl) rfl
theorem q2058 : (Jvm.Cond.code ({ cls := "FootOutModel", name := "hurtAt", desc := "(I)I" } : Jvm.MethodName) prog_21_method_79_code (2 : Nat) (Option.some Jvm.ClassFile.FieldType.int)) ∈ lw_all := lw_g (lw_at lw_m9 15 rfl) rfl
theorem q2059 : (Jvm.Cond.methodLink "FootOutModel" (338 : Nat) ({ cls := "FootOutModel", name := "fallOf", desc := "(I)I" } : Jvm.MethodName)) ∈ lw_all := lw_g (lw_at lw_m9 16 rfl) rfl
theorem q2060 : (Jvm.Cond.privateMethod ({ cls := "FootOutModel", name := "fallOf", desc := "(I)I" } : Jvm.MethodName)) ∈ lw_tbl := lw_at lw_m9 17 rfl
theorem q2061 : (Jvm.Cond.instanceMethod ({ cls := "FootOutModel", name := "fallOf", desc := "(I)I" } : Jvm.MethodName)) ∈ lw_all := lw_g (lw_at lw_m9 18 rfl) rfl
theorem q2062 : (Jvm.Cond.code ({ cls := "FootOutModel", name := "fallOf", desc := "(I)I" } : Jvm.MethodName) prog_21_method_82_code (4 : Nat) (Option.some Jvm.ClassFile.FieldType.int)) ∈ lw_all := lw_g (lw_at lw_m9 19 rfl) rfl
theorem q2063 : (Jvm.Cond.methodLink "FootOutModel" (341 : Nat) ({ cls := "FootOutModel", name := "matchesOf", desc := "(I)I" } : Jvm.MethodName)) ∈ lw_all := lw_g (lw_at lw_m9 20 rfl) rfl
theorem q2064 : (Jvm.Cond.privateMethod ({ cls := "FootOutModel", name := "matchesOf", desc := "(I)I" } : Jvm.MethodName)) ∈ lw_tbl := lw_at lw_m9 21 rfl
theorem q2065 : (Jvm.Cond.instanceMethod ({ cls := "FootOutModel", name := "matchesOf", desc := "(I)I" } : Jvm.MethodName)) ∈ lw_all := lw_g (lw_at lw_m9 22 rfl) rfl
theorem q2066 : (Jvm.Cond.code ({ cls := "FootOutModel", name := "matchesOf", desc := "(I)I" } : Jvm.MethodName) prog_21_method_81_code (8 : Nat) (Option.some Jvm.ClassFile.FieldType.int)) ∈ lw_all := lw_g (lw_at lw_m9 23 rfl) rfl
theorem q2068 : (Jvm.Cond.instanceMethod ({ cls := "FootOutModel", name := "ranked", desc := "(I)I" } : Jvm.MethodName)) ∈ lw_all := lw_g (lw_at lw_m9 25 rfl) rfl
theorem q2069 : (Jvm.Cond.selects "FootOutModel" ({ cls := "FootOutModel", name := "ranked", desc := "(I)I" } : Jvm.MethodName) ({ cls := "FootOutModel", name := "ranked", desc := "(I)I" } : Jvm.MethodName)) ∈ lw_all := lw_g (lw_at lw_m9 26 rfl) rfl
theorem q2070 : (Jvm.Cond.code ({ cls := "FootOutModel", name := "ranked", desc := "(I)I" } : Jvm.MethodName) prog_21_method_85_code (5 : Nat) (Option.some Jvm.ClassFile.FieldType.int)) ∈ lw_all := lw_g (lw_at lw_m9 27 rfl) rfl
theorem q2071 : (Jvm.Cond.methodLink "FootOutModel" (344 : Nat) ({ cls := "FootOutModel", name := "isWorse", desc := "(II)Z" } : Jvm.MethodName)) ∈ lw_all := lw_g (lw_at lw_m9 28 rfl) rfl
theorem q2072 : (Jvm.Cond.privateMethod ({ cls := "FootOutModel", name := "isWorse", desc := "(II)Z" } : Jvm.MethodName)) ∈ lw_tbl := lw_at lw_m9 29 rfl
theorem q2073 : (Jvm.Cond.instanceMethod ({ cls := "FootOutModel", name := "isWorse", desc := "(II)Z" } : Jvm.MethodName)) ∈ lw_all := lw_g (lw_at lw_m9 30 rfl) rfl
theorem q2074 : (Jvm.Cond.code ({ cls := "FootOutModel", name := "isWorse", desc := "(II)Z" } : Jvm.MethodName) prog_21_method_84_code (11 : Nat) (Option.some Jvm.ClassFile.FieldType.boolean)) ∈ lw_all := lw_g (lw_at lw_m9 31 rfl) rfl
theorem q2076 : (Jvm.Cond.instanceMethod ({ cls := "FootOutModel", name := "measure", desc := "(III)I" } : Jvm.MethodName)) ∈ lw_all := lw_g (lw_at lw_m9 33 rfl) rfl
theorem q2077 : (Jvm.Cond.selects "FootOutModel" ({ cls := "FootOutModel", name := "measure", desc := "(III)I" } : Jvm.MethodName) ({ cls := "FootOutModel", name := "measure", desc := "(III)I" } : Jvm.MethodName)) ∈ lw_all := lw_g (lw_at lw_m9 34 rfl) rfl
theorem q2078 : (Jvm.Cond.code ({ cls := "FootOutModel", name := "measure", desc := "(III)I" } : Jvm.MethodName) prog_21_method_86_code (4 : Nat) (Option.some Jvm.ClassFile.FieldType.int)) ∈ lw_all := lw_g (lw_at lw_m9 35 rfl) rfl
theorem q2080 : (Jvm.Cond.instanceMethod ({ cls := "FootOutModel", name := "spent", desc := "(II)I" } : Jvm.MethodName)) ∈ lw_all := lw_g (lw_at lw_m9 37 rfl) rfl
theorem q2081 : (Jvm.Cond.selects "FootOutModel" ({ cls := "FootOutModel", name := "spent", desc := "(II)I" } : Jvm.MethodName) ({ cls := "FootOutModel", name := "spent", desc := "(II)I" } : Jvm.MethodName)) ∈ lw_all := lw_g (lw_at lw_m9 38 rfl) rfl
theorem q2082 : (Jvm.Cond.code ({ cls := "FootOutModel", name := "spent", desc := "(II)I" } : Jvm.MethodName) prog_21_method_91_code (6 : Nat) (Option.some Jvm.ClassFile.FieldType.int)) ∈ lw_all := lw_g (lw_at lw_m9 39 rfl) rfl
theorem q2083 : (Jvm.Cond.constantLong "FootOutModel" (353 : Nat) (999 : Int64)) ∈ lw_all := lw_g (lw_at lw_m9 40 rfl) rfl
theorem q2084 : (Jvm.Cond.methodLink "FootOutModel" (355 : Nat) ({ cls := "FootOutModel", name := "laysSpent", desc := "(I)V" } : Jvm.MethodName)) ∈ lw_all := lw_g (lw_at lw_m9 41 rfl) rfl
theorem q2085 : (Jvm.Cond.privateMethod ({ cls := "FootOutModel", name := "laysSpent", desc := "(I)V" } : Jvm.MethodName)) ∈ lw_tbl := lw_at lw_m9 42 rfl
theorem q2086 : (Jvm.Cond.instanceMethod ({ cls := "FootOutModel", name := "laysSpent", desc := "(I)V" } : Jvm.MethodName)) ∈ lw_all := lw_g (lw_at lw_m9 43 rfl) rfl
theorem q2087 : (Jvm.Cond.code ({ cls := "FootOutModel", name := "laysSpent", desc := "(I)V" } : Jvm.MethodName) prog_21_method_90_code (9 : Nat) (Option.none : Option Jvm.ClassFile.FieldType)) ∈ lw_all := lw_g (lw_at lw_m9 44 rfl) rfl
theorem q2088 : (Jvm.Cond.methodLink "FootOutModel" (347 : Nat) ({ cls := "FootOutModel", name := "costOf", desc := "(I)I" } : Jvm.MethodName)) ∈ lw_all := lw_g (lw_at lw_m9 45 rfl) rfl
theorem q2089 : (Jvm.Cond.privateMethod ({ cls := "FootOutModel", name := "costOf", desc := "(I)I" } : Jvm.MethodName)) ∈ lw_tbl := lw_at lw_m9 46 rfl
theorem q2090 : (Jvm.Cond.instanceMethod ({ cls := "FootOutModel", name := "costOf", desc := "(I)I" } : Jvm.MethodName)) ∈ lw_all := lw_g (lw_at lw_m9 47 rfl) rfl
theorem q2091 : (Jvm.Cond.code ({ cls := "FootOutModel", name := "costOf", desc := "(I)I" } : Jvm.MethodName) prog_21_method_87_code (4 : Nat) (Option.some Jvm.ClassFile.FieldType.int)) ∈ lw_all := lw_g (lw_at lw_m9 48 rfl) rfl
theorem q2092 : (Jvm.Cond.methodLink "FootOutModel" (350 : Nat) ({ cls := "FootOutModel", name := "leftOf", desc := "(II)I" } : Jvm.MethodName)) ∈ lw_all := lw_g (lw_at lw_m9 49 rfl) rfl
theorem q2093 : (Jvm.Cond.privateMethod ({ cls := "FootOutModel", name := "leftOf", desc := "(II)I" } : Jvm.MethodName)) ∈ lw_tbl := lw_at lw_m9 50 rfl
theorem q2094 : (Jvm.Cond.instanceMethod ({ cls := "FootOutModel", name := "leftOf", desc := "(II)I" } : Jvm.MethodName)) ∈ lw_all := lw_g (lw_at lw_m9 51 rfl) rfl
theorem q2095 : (Jvm.Cond.code ({ cls := "FootOutModel", name := "leftOf", desc := "(II)I" } : Jvm.MethodName) prog_21_method_88_code (5 : Nat) (Option.some Jvm.ClassFile.FieldType.int)) ∈ lw_all := lw_g (lw_at lw_m9 52 rfl) rfl
theorem q2096 : (Jvm.Cond.methodLink "FootOutModel" (358 : Nat) ({ cls := "FootOutModel", name := "isBest", desc := "(III)Z" } : Jvm.MethodName)) ∈ lw_all := lw_g (lw_at lw_m9 53 rfl) rfl
theorem q2097 : (Jvm.Cond.privateMethod ({ cls := "FootOutModel", name := "isBest", desc := "(III)Z" } : Jvm.MethodName)) ∈ lw_tbl := lw_at lw_m9 54 rfl
theorem q2098 : (Jvm.Cond.instanceMethod ({ cls := "FootOutModel", name := "isBest", desc := "(III)Z" } : Jvm.MethodName)) ∈ lw_all := lw_g (lw_at lw_m9 55 rfl) rfl
theorem q2099 : (Jvm.Cond.code ({ cls := "FootOutModel", name := "isBest", desc := "(III)Z" } : Jvm.MethodName) prog_21_method_89_code (5 : Nat) (Option.some Jvm.ClassFile.FieldType.boolean)) ∈ lw_all := lw_g (lw_at lw_m9 56 rfl) rfl
theorem q2101 : (Jvm.Cond.instanceMethod ({ cls := "FootOutModel", name := "fine", desc := "(IIII)I" } : Jvm.MethodName)) ∈ lw_all := lw_g (lw_at lw_m9 58 rfl) rfl
theorem q2102 : (Jvm.Cond.selects "FootOutModel" ({ cls := "FootOutModel", name := "fine", desc := "(IIII)I" } : Jvm.MethodName) ({ cls := "FootOutModel", name := "fine", desc := "(IIII)I" } : Jvm.MethodName)) ∈ lw_all := lw_g (lw_at lw_m9 59 rfl) rfl
theorem q2103 : (Jvm.Cond.code ({ cls := "FootOutModel", name := "fine", desc := "(IIII)I" } : Jvm.MethodName) prog_21_method_92_code (7 : Nat) (Option.some Jvm.ClassFile.FieldType.int)) ∈ lw_all := lw_g (lw_at lw_m9 60 rfl) rfl
theorem q2105 : (Jvm.Cond.instanceMethod ({ cls := "FootOutModel", name := "until", desc := "(IIII)I" } : Jvm.MethodName)) ∈ lw_all := lw_g (lw_at lw_m9 62 rfl) rfl
theorem q2106 : (Jvm.Cond.selects "FootOutModel" ({ cls := "FootOutModel", name := "until", desc := "(IIII)I" } : Jvm.MethodName) ({ cls := "FootOutModel", name := "until", desc := "(IIII)I" } : Jvm.MethodName)) ∈ lw_all := lw_g (lw_at lw_m9 63 rfl) rfl
theorem q2107 : (Jvm.Cond.code ({ cls := "FootOutModel", name := "until", desc := "(IIII)I" } : Jvm.MethodName) prog_21_method_93_code (7 : Nat) (Option.some Jvm.ClassFile.FieldType.int)) ∈ lw_all := lw_g (lw_at lw_m9 64 rfl) rfl
theorem q2109 : (Jvm.Cond.instanceMethod ({ cls := "FootOutModel", name := "lot", desc := "(II)I" } : Jvm.MethodName)) ∈ lw_all := lw_g (lw_at lw_m9 66 rfl) rfl
theorem q2110 : (Jvm.Cond.selects "FootOutModel" ({ cls := "FootOutModel", name := "lot", desc := "(II)I" } : Jvm.MethodName) ({ cls := "FootOutModel", name := "lot", desc := "(II)I" } : Jvm.MethodName)) ∈ lw_all := lw_g (lw_at lw_m9 67 rfl) rfl
theorem q2111 : (Jvm.Cond.code ({ cls := "FootOutModel", name := "lot", desc := "(II)I" } : Jvm.MethodName) prog_21_method_94_code (8 : Nat) (Option.some Jvm.ClassFile.FieldType.int)) ∈ lw_all := lw_g (lw_at lw_m9 68 rfl) rfl
theorem q2112 : (Jvm.Cond.constantLong "FootOutModel" (361 : Nat) (4 : Int64)) ∈ lw_all := lw_g (lw_at lw_m9 69 rfl) rfl
theorem q2114 : (Jvm.Cond.instanceMethod ({ cls := "FootOutModel", name := "shown", desc := "(IIII)I" } : Jvm.MethodName)) ∈ lw_all := lw_g (lw_at lw_m9 71 rfl) rfl
theorem q2115 : (Jvm.Cond.selects "FootOutModel" ({ cls := "FootOutModel", name := "shown", desc := "(IIII)I" } : Jvm.MethodName) ({ cls := "FootOutModel", name := "shown", desc := "(IIII)I" } : Jvm.MethodName)) ∈ lw_all := lw_g (lw_at lw_m9 72 rfl) rfl
theorem q2116 : (Jvm.Cond.code ({ cls := "FootOutModel", name := "shown", desc := "(IIII)I" } : Jvm.MethodName) prog_21_method_95_code (9 : Nat) (Option.some Jvm.ClassFile.FieldType.int)) ∈ lw_all := lw_g (lw_at lw_m9 73 rfl) rfl
theorem q2118 : (Jvm.Cond.instanceMethod ({ cls := "FootOutModel", name := "clumps", desc := "(IIII)I" } : Jvm.MethodName)) ∈ lw_all := lw_g (lw_at lw_m9 75 rfl) rfl
theorem q2119 : (Jvm.Cond.selects "FootOutModel" ({ cls := "FootOutModel", name := "clumps", desc := "(IIII)I" } : Jvm.MethodName) ({ cls := "FootOutModel", name := "clumps", desc := "(IIII)I" } : Jvm.MethodName)) ∈ lw_all := lw_g (lw_at lw_m9 76 rfl) rfl
theorem q2120 : (Jvm.Cond.code ({ cls := "FootOutModel", name := "clumps", desc := "(IIII)I" } : Jvm.MethodName) prog_21_method_96_code (12 : Nat) (Option.some Jvm.ClassFile.FieldType.int)) ∈ lw_all := lw_g (lw_at lw_m9 77 rfl) rfl
theorem q2121 : (Jvm.Cond.constantLong "FootOutModel" (363 : Nat) (2 : Int64)) ∈ lw_all := lw_g (lw_at lw_m9 78 rfl) rfl
theorem q2122 : (Jvm.Cond.constantLong "FootOutModel" (365 : Nat) (9999 : Int64)) ∈ lw_all := lw_g (lw_at lw_m9 79 rfl) rfl
theorem q2124 : (Jvm.Cond.instanceMethod ({ cls := "FootOutModel", name := "lamp", desc := "(III)I" } : Jvm.MethodName)) ∈ lw_all := lw_g (lw_at lw_m9 81 rfl) rfl
theorem q2125 : (Jvm.Cond.selects "FootOutModel" ({ cls := "FootOutModel", name := "lamp", desc := "(III)I" } : Jvm.MethodName) ({ cls := "FootOutModel", name := "lamp", desc := "(III)I" } : Jvm.MethodName)) ∈ lw_all := lw_g (lw_at lw_m9 82 rfl) rfl
theorem q2126 : (Jvm.Cond.code ({ cls := "FootOutModel", name := "lamp", desc := "(III)I" } : Jvm.MethodName) prog_21_method_97_code (12 : Nat) (Option.some Jvm.ClassFile.FieldType.int)) ∈ lw_all := lw_g (lw_at lw_m9 83 rfl) rfl
theorem q2128 : (Jvm.Cond.instanceMethod ({ cls := "FootOutModel", name := "pay", desc := "(IIII)I" } : Jvm.MethodName)) ∈ lw_all := lw_g (lw_at lw_m9 85 rfl) rfl
theorem q2129 : (Jvm.Cond.selects "FootOutModel" ({ cls := "FootOutModel", name := "pay", desc := "(IIII)I" } : Jvm.MethodName) ({ cls := "FootOutModel", name := "pay", desc := "(IIII)I" } : Jvm.MethodName)) ∈ lw_all := lw_g (lw_at lw_m9 86 rfl) rfl
theorem q2130 : (Jvm.Cond.code ({ cls := "FootOutModel", name := "pay", desc := "(IIII)I" } : Jvm.MethodName) prog_21_method_99_code (6 : Nat) (Option.some Jvm.ClassFile.FieldType.int)) ∈ lw_all := lw_g (lw_at lw_m9 87 rfl) rfl
theorem q2131 : (Jvm.Cond.constantLong "FootOutModel" (367 : Nat) (-99 : Int64)) ∈ lw_all := lw_g (lw_at lw_m9 88 rfl) rfl
theorem q2132 : (Jvm.Cond.methodLink "FootOutModel" (369 : Nat) ({ cls := "FootOutModel", name := "payAt", desc := "(III)I" } : Jvm.MethodName)) ∈ lw_all := lw_g (lw_at lw_m9 89 rfl) rfl
theorem q2133 : (Jvm.Cond.privateMethod ({ cls := "FootOutModel", name := "payAt", desc := "(III)I" } : Jvm.MethodName)) ∈ lw_tbl := lw_at lw_m9 90 rfl
theorem q2134 : (Jvm.Cond.instanceMethod ({ cls := "FootOutModel", name := "payAt", desc := "(III)I" } : Jvm.MethodName)) ∈ lw_all := lw_g (lw_at lw_m9 91 rfl) rfl
theorem q2135 : (Jvm.Cond.code ({ cls := "FootOutModel", name := "payAt", desc := "(III)I" } : Jvm.MethodName) prog_21_method_98_code (4 : Nat) (Option.some Jvm.ClassFile.FieldType.int)) ∈ lw_all := lw_g (lw_at lw_m9 92 rfl) rfl
theorem q2137 : (Jvm.Cond.instanceMethod ({ cls := "FootOutModel", name := "rests", desc := "(III)I" } : Jvm.MethodName)) ∈ lw_all := lw_g (lw_at lw_m9 94 rfl) rfl
theorem q2138 : (Jvm.Cond.selects "FootOutModel" ({ cls := "FootOutModel", name := "rests", desc := "(III)I" } : Jvm.MethodName) ({ cls := "FootOutModel", name := "rests", desc := "(III)I" } : Jvm.MethodName)) ∈ lw_all := lw_g (lw_at lw_m9 95 rfl) rfl
theorem q2139 : (Jvm.Cond.code ({ cls := "FootOutModel", name := "rests", desc := "(III)I" } : Jvm.MethodName) prog_21_method_101_code (8 : Nat) (Option.some Jvm.ClassFile.FieldType.int)) ∈ lw_all := lw_g (lw_at lw_m9 96 rfl) rfl
theorem q2140 : (Jvm.Cond.methodLink "FootOutModel" (373 : Nat) ({ cls := "FootOutModel", name := "isRest", desc := "(IIII)Z" } : Jvm.MethodName)) ∈ lw_all := lw_g (lw_at lw_m9 97 rfl) rfl
theorem q2141 : (Jvm.Cond.privateMethod ({ cls := "FootOutModel", name := "isRest", desc := "(IIII)Z" } : Jvm.MethodName)) ∈ lw_tbl := lw_at lw_m9 98 rfl
theorem q2142 : (Jvm.Cond.instanceMethod ({ cls := "FootOutModel", name := "isRest", desc := "(IIII)Z" } : Jvm.MethodName)) ∈ lw_all := lw_g (lw_at lw_m9 99 rfl) rfl
theorem q2143 : (Jvm.Cond.code ({ cls := "FootOutModel", name := "isRest", desc := "(IIII)Z" } : Jvm.MethodName) prog_21_method_100_code (7 : Nat) (Option.some Jvm.ClassFile.FieldType.boolean)) ∈ lw_all := lw_g (lw_at lw_m9 100 rfl) rfl
theorem q2145 : (Jvm.Cond.instanceMethod ({ cls := "FootOutModel", name := "thanks", desc := "(IIIII)I" } : Jvm.MethodName)) ∈ lw_all := lw_g (lw_at lw_m9 102 rfl) rfl
theorem q2146 : (Jvm.Cond.selects "FootOutModel" ({ cls := "FootOutModel", name := "thanks", desc := "(IIIII)I" } : Jvm.MethodName) ({ cls := "FootOutModel", name := "thanks", desc := "(IIIII)I" } : Jvm.MethodName)) ∈ lw_all := lw_g (lw_at lw_m9 103 rfl) rfl
theorem q2147 : (Jvm.Cond.code ({ cls := "FootOutModel", name := "thanks", desc := "(IIIII)I" } : Jvm.MethodName) prog_21_method_102_code (9 : Nat) (Option.some Jvm.ClassFile.FieldType.int)) ∈ lw_all := lw_g (lw_at lw_m9 104 rfl) rfl
theorem q2148 : (Jvm.Cond.constantLong "FootOutModel" (377 : Nat) (1000000 : Int64)) ∈ lw_all := lw_g (lw_at lw_m9 105 rfl) rfl
theorem q2149 : (Jvm.Cond.constantLong "FootOutModel" (379 : Nat) (100000000 : Int64)) ∈ lw_all := lw_g (lw_at lw_m9 106 rfl) rfl
theorem q2150 : (Jvm.Cond.constantLong "FootOutModel" (381 : Nat) (10000 : Int64)) ∈ lw_all := lw_g (lw_at lw_m9 107 rfl) rfl
theorem q2152 : (Jvm.Cond.instanceMethod ({ cls := "FootOutModel", name := "filled", desc := "(II)I" } : Jvm.MethodName)) ∈ lw_all := lw_g (lw_at lw_m9 109 rfl) rfl
theorem q2153 : (Jvm.Cond.selects "FootOutModel" ({ cls := "FootOutModel", name := "filled", desc := "(II)I" } : Jvm.MethodName) ({ cls := "FootOutModel", name := "filled", desc := "(II)I" } : Jvm.MethodName)) ∈ lw_all := lw_g (lw_at lw_m9 110 rfl) rfl
theorem q2154 : (Jvm.Cond.code ({ cls := "FootOutModel", name := "filled", desc := "(II)I" } : Jvm.MethodName) prog_21_method_106_code (3 : Nat) (Option.some Jvm.ClassFile.FieldType.int)) ∈ lw_all := lw_g (lw_at lw_m9 111 rfl) rfl
theorem q2155 : (Jvm.Cond.methodLink "FootOutModel" (383 : Nat) ({ cls := "FootOutModel", name := "isTooMuch", desc := "(I)Z" } : Jvm.MethodName)) ∈ lw_all := lw_g (lw_at lw_m9 112 rfl) rfl
theorem q2156 : (Jvm.Cond.privateMethod ({ cls := "FootOutModel", name := "isTooMuch", desc := "(I)Z" } : Jvm.MethodName)) ∈ lw_tbl := lw_at lw_m9 113 rfl
theorem q2157 : (Jvm.Cond.instanceMethod ({ cls := "FootOutModel", name := "isTooMuch", desc := "(I)Z" } : Jvm.MethodName)) ∈ lw_all := lw_g (lw_at lw_m9 114 rfl) rfl
theorem q2158 : (Jvm.Cond.code ({ cls := "FootOutModel", name := "isTooMuch", desc := "(I)Z" } : Jvm.MethodName) prog_21_method_104_code (3 : Nat) (Option.some Jvm.ClassFile.FieldType.boolean)) ∈ lw_all := lw_g (lw_at lw_m9 115 rfl) rfl
theorem q2159 : (Jvm.Cond.methodLink "FootOutModel" (386 : Nat) ({ cls := "FootOutModel", name := "hereIn", desc := "(I)I" } : Jvm.MethodName)) ∈ lw_all := lw_g (lw_at lw_m9 116 rfl) rfl
theorem q2160 : (Jvm.Cond.privateMethod ({ cls := "FootOutModel", name := "hereIn", desc := "(I)I" } : Jvm.MethodName)) ∈ lw_tbl := lw_at lw_m9 117 rfl
theorem q2161 : (Jvm.Cond.instanceMethod ({ cls := "FootOutModel", name := "hereIn", desc := "(I)I" } : Jvm.MethodName)) ∈ lw_all := lw_g (lw_at lw_m9 118 rfl) rfl
theorem q2162 : (Jvm.Cond.code ({ cls := "FootOutModel", name := "hereIn", desc := "(I)I" } : Jvm.MethodName) prog_21_method_103_code (4 : Nat) (Option.some Jvm.ClassFile.FieldType.int)) ∈ lw_all := lw_g (lw_at lw_m9 119 rfl) rfl
theorem q2163 : (Jvm.Cond.methodLink "FootOutModel" (389 : Nat) ({ cls := "FootOutModel", name := "filledAt", desc := "(II)I" } : Jvm.MethodName)) ∈ lw_all := lw_g (lw_at lw_m9 120 rfl) rfl
theorem q2164 : (Jvm.Cond.privateMethod ({ cls := "FootOutModel", name := "filledAt", desc := "(II)I" } : Jvm.MethodName)) ∈ lw_tbl := lw_at lw_m9 121 rfl
theorem q2165 : (Jvm.Cond.instanceMethod ({ cls := "FootOutModel", name := "filledAt", desc := "(II)I" } : Jvm.MethodName)) ∈ lw_all := lw_g (lw_at lw_m9 122 rfl) rfl
theorem q2166 : (Jvm.Cond.code ({ cls := "FootOutModel", name := "filledAt", desc := "(II)I" } : Jvm.MethodName) prog_21_method_105_code (9 : Nat) (Option.some Jvm.ClassFile.FieldType.int)) ∈ lw_all := lw_g (lw_at lw_m9 123 rfl) rfl
theorem q2168 : (Jvm.Cond.instanceMethod ({ cls := "FootOutModel", name := "slip", desc := "(II)I" } : Jvm.MethodName)) ∈ lw_all := lw_g (lw_at lw_m9 125 rfl) rfl
theorem q2169 : (Jvm.Cond.selects "FootOutModel" ({ cls := "FootOutModel", name := "slip", desc := "(II)I" } : Jvm.MethodName) ({ cls := "FootOutModel", name := "slip", desc := "(II)I" } : Jvm.MethodName)) ∈ lw_all := lw_g (lw_at lw_m9 126 rfl) rfl
theorem q2170 : (Jvm.Cond.code ({ cls := "FootOutModel", name := "slip", desc := "(II)I" } : Jvm.MethodName) prog_21_method_108_code (14 : Nat) (Option.some Jvm.ClassFile.FieldType.int)) ∈ lw_all := lw_g (lw_at lw_m9 127 rfl) rfl
theorem q2171 : (Jvm.Cond.methodLink "FootOutModel" (392 : Nat) ({ cls := "FootOutModel", name := "isRow", desc := "(I)Z" } : Jvm.MethodName)) ∈ lw_all := lw_g (lw_at lw_m9 128 rfl) rfl
theorem q2172 : (Jvm.Cond.privateMethod ({ cls := "FootOutModel", name := "isRow", desc := "(I)Z" } : Jvm.MethodName)) ∈ lw_tbl := lw_at lw_m9 129 rfl
theorem q2173 : (Jvm.Cond.instanceMethod ({ cls := "FootOutModel", name := "isRow", desc := "(I)Z" } : Jvm.MethodName)) ∈ lw_all := lw_g (lw_at lw_m9 130 rfl) rfl
theorem q2174 : (Jvm.Cond.code ({ cls := "FootOutModel", name := "isRow", desc := "(I)Z" } : Jvm.MethodName) prog_21_method_107_code (2 : Nat) (Option.some Jvm.ClassFile.FieldType.boolean)) ∈ lw_all := lw_g (lw_at lw_m9 131 rfl) rfl
theorem q2176 : (Jvm.Cond.instanceMethod ({ cls := "FootOutModel", name := "numbers", desc := "(III)I" } : Jvm.MethodName)) ∈ lw_all := lw_g (lw_at lw_m9 133 rfl) rfl
theorem q2177 : (Jvm.Cond.selects "FootOutModel" ({ cls := "FootOutModel", name := "numbers", desc := "(III)I" } : Jvm.MethodName) ({ cls := "FootOutModel", name := "numbers", desc := "(III)I" } : Jvm.MethodName)) ∈ lw_all := lw_g (lw_at lw_m9 134 rfl) rfl
theorem q2178 : (Jvm.Cond.code ({ cls := "FootOutModel", name := "numbers", desc := "(III)I" } : Jvm.MethodName) prog_21_method_110_code (5 : Nat) (Option.some Jvm.ClassFile.FieldType.int)) ∈ lw_all := lw_g (lw_at lw_m9 135 rfl) rfl
theorem q2179 : (Jvm.Cond.constantLong "FootOutModel" (395 : Nat) (40 : Int64)) ∈ lw_all := lw_g (lw_at lw_m9 136 rfl) rfl
theorem q2181 : (Jvm.Cond.instanceMethod ({ cls := "FootOutModel", name := "write", desc := "(IIJ)J" } : Jvm.MethodName)) ∈ lw_all := lw_g (lw_at lw_m9 138 rfl) rfl
theorem q2182 : (Jvm.Cond.selects "FootOutModel" ({ cls := "FootOutModel", name := "write", desc := "(IIJ)J" } : Jvm.MethodName) ({ cls := "FootOutModel", name := "write", desc := "(IIJ)J" } : Jvm.MethodName)) ∈ lw_all := lw_g (lw_at lw_m9 139 rfl) rfl
theorem q2183 : (Jvm.Cond.code ({ cls := "FootOutModel", name := "write", desc := "(IIJ)J" } : Jvm.MethodName) prog_21_method_111_code (5 : Nat) (Option.some Jvm.ClassFile.FieldType.long)) ∈ lw_all := lw_g (lw_at lw_m9 140 rfl) rfl
theorem q2184 : (Jvm.Cond.methodLink "FootOutModel" (397 : Nat) ({ cls := "FootOutModel", name := "cut", desc := "(JI)J" } : Jvm.MethodName)) ∈ lw_all := lw_g (lw_at lw_m9 141 rfl) rfl
theorem q2185 : (Jvm.Cond.static ({ cls := "FootOutModel", name := "cut", desc := "(JI)J" } : Jvm.MethodName)) ∈ lw_all := lw_g (lw_at lw_m9 142 rfl) rfl
theorem q2186 : (Jvm.Cond.code ({ cls := "FootOutModel", name := "cut", desc := "(JI)J" } : Jvm.MethodName) prog_21_method_109_code (3 : Nat) (Option.some Jvm.ClassFile.FieldType.long)) ∈ lw_all := lw_g (lw_at lw_m9 143 rfl) rfl
theorem q2188 : (Jvm.Cond.instanceMethod ({ cls := "FootOutModel", name := "image", desc := "(I)I" } : Jvm.MethodName)) ∈ lw_all := lw_g (lw_at lw_m9 145 rfl) rfl
theorem q2189 : (Jvm.Cond.selects "FootOutModel" ({ cls := "FootOutModel", name := "image", desc := "(I)I" } : Jvm.MethodName) ({ cls := "FootOutModel", name := "image", desc := "(I)I" } : Jvm.MethodName)) ∈ lw_all := lw_g (lw_at lw_m9 146 rfl) rfl
theorem q2190 : (Jvm.Cond.code ({ cls := "FootOutModel", name := "image", desc := "(I)I" } : Jvm.MethodName) prog_21_method_112_code (3 : Nat) (Option.some Jvm.ClassFile.FieldType.int)) ∈ lw_all := lw_g (lw_at lw_m9 147 rfl) rfl
theorem q2192 : (Jvm.Cond.instanceMethod ({ cls := "FootOutModel", name := "restore", desc := "(I)I" } : Jvm.MethodName)) ∈ lw_all := lw_g (lw_at lw_m9 149 rfl) rfl
theorem q2193 : (Jvm.Cond.selects "FootOutModel" ({ cls := "FootOutModel", name := "restore", desc := "(I)I" } : Jvm.MethodName) ({ cls := "FootOutModel", name := "restore", desc := "(I)I" } : Jvm.MethodName)) ∈ lw_all := lw_g (lw_at lw_m9 150 rfl) rfl
theorem q2194 : (Jvm.Cond.code ({ cls := "FootOutModel", name := "restore", desc := "(I)I" } : Jvm.MethodName) prog_21_method_113_code (3 : Nat) (Option.some Jvm.ClassFile.FieldType.int)) ∈ lw_all := lw_g (lw_at lw_m9 151 rfl) rfl
theorem q2196 : (Jvm.Cond.instanceMethod ({ cls := "FootOutModel", name := "status", desc := "(I)I" } : Jvm.MethodName)) ∈ lw_all := lw_g (lw_at lw_m9 153 rfl) rfl
theorem q2197 : (Jvm.Cond.selects "FootOutModel" ({ cls := "FootOutModel", name := "status", desc := "(I)I" } : Jvm.MethodName) ({ cls := "FootOutModel", name := "status", desc := "(I)I" } : Jvm.MethodName)) ∈ lw_all := lw_g (lw_at lw_m9 154 rfl) rfl
theorem q2198 : (Jvm.Cond.code ({ cls := "FootOutModel", name := "status", desc := "(I)I" } : Jvm.MethodName) prog_21_method_114_code (2 : Nat) (Option.some Jvm.ClassFile.FieldType.int)) ∈ lw_all := lw_g (lw_at lw_m9 155 rfl) rfl
theorem q2200 : (Jvm.Cond.instanceMethod ({ cls := "FootOutModel", name := "count", desc := "(I)I" } : Jvm.MethodName)) ∈ lw_all := lw_g (lw_at lw_m9 157 rfl) rfl
theorem q2201 : (Jvm.Cond.selects "FootOutModel" ({ cls := "FootOutModel", name := "count", desc := "(I)I" } : Jvm.MethodName) ({ cls := "FootOutModel", name := "count", desc := "(I)I" } : Jvm.MethodName)) ∈ lw_all := lw_g (lw_at lw_m9 158 rfl) rfl
theorem q2202 : (Jvm.Cond.code ({ cls := "FootOutModel", name := "count", desc := "(I)I" } : Jvm.MethodName) prog_21_method_115_code (2 : Nat) (Option.some Jvm.ClassFile.FieldType.int)) ∈ lw_all := lw_g (lw_at lw_m9 159 rfl) rfl
theorem q2212 : (Jvm.Cond.castable "FootOutModel" "java/lang/Object") ∈ lw_tbl := lw_at lw_m9 169 rfl
theorem in_X5 : ∀ w ∈ wsX50, w ∈ lw_all := lw_in wsX50 [1657, 1659, 1661, 1663, 1665, 1667, 1669, 1671, 1673, 1675, 1677, 1679, 1681, 1683, 1685, 1687, 1689, 1691, 1693, 1695, 1697, 1699, 1701, 1703, 1705, 1707, 1709, 1711, 1713, 1715, 1717, 1719, 1721, 1723, 1725, 1727] (by decide +kernel) (by decide +kernel)
