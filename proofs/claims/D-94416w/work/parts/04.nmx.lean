/-! FootOut$State -/
set_option maxRecDepth 100000
def RX1 : String := "FootOut$State"
def TX1 : u_T := fun k => match k with
  | 0 => ("FootOut$State", "scene", "LFootOut$Scene;", false)
  | 1 => ("FootOut$State", "law", "Ljava/util/ArrayList;", false)
  | 2 => ("FootOut$State", "places", "Ljava/util/ArrayList;", true)
  | 3 => ("FootOut$State", "cost", "[I", true)
  | 4 => ("FootOut$State", "left", "[I", true)
  | _ => ("FootOut$State", "pay", "[I", true)
def tyX1 : Nat → FieldType := fun k => match k with
  | 0 => .object "FootOut$Scene"
  | 1 => .object "java/util/ArrayList"
  | 2 => .object "java/util/ArrayList"
  | 3 => .array .int
  | 4 => .array .int
  | _ => .array .int
abbrev wsX10 : List Cond := u_ws RX1 TX1 6
theorem nmX1 : ∀ a, a < 6 → ∀ b, b < 6 → a ≠ b → (TX1 a).2.1 ≠ (TX1 b).2.1 := by decide +kernel
theorem tyX1_ok : ∀ k, k < 6 → parseFieldDescriptor (TX1 k).2.2.1 = some (tyX1 k) := by decide +kernel
abbrev cX1_init : ByteArray := prog_16_method_1_code
def yX1_init : MethodName := ⟨RX1, "<init>", "()V"⟩
def dkwX1_init_4 : List UInt8 := [181, 0, 37, 177]
abbrev dktX1_init_4 : List UInt8 := dkwX1_init_4 ++ []
def dkwX1_init_3 : List UInt8 := [4, 16, 100, 79, 89, 5, 16, 100, 79, 89, 6, 16, 100, 79, 181, 0, 34, 42, 16, 20, 188, 10]
abbrev dktX1_init_3 : List UInt8 := dkwX1_init_3 ++ dktX1_init_4
def dkwX1_init_2 : List UInt8 := [4, 4, 79, 89, 5, 4, 79, 89, 6, 4, 79, 181, 0, 30, 42, 7, 188, 10, 89, 3, 16, 100, 79, 89]
abbrev dktX1_init_2 : List UInt8 := dkwX1_init_2 ++ dktX1_init_3
def dkwX1_init_1 : List UInt8 := [181, 0, 23, 42, 187, 0, 18, 89, 5, 183, 0, 20, 181, 0, 27, 42, 7, 188, 10, 89, 3, 4, 79, 89]
abbrev dktX1_init_1 : List UInt8 := dkwX1_init_1 ++ dktX1_init_2
def dkwX1_init_0 : List UInt8 := [42, 183, 0, 3, 42, 187, 0, 9, 89, 183, 0, 11, 181, 0, 12, 42, 187, 0, 18, 89, 5, 183, 0, 20]
abbrev dktX1_init_0 : List UInt8 := dkwX1_init_0 ++ dktX1_init_1
theorem dksX1_init_0 : cX1_init.data.toList.drop 0 = dktX1_init_0 := by decide +kernel
theorem dksX1_init_1 : cX1_init.data.toList.drop 24 = dktX1_init_1 := dk_seg dksX1_init_0 24 rfl rfl
theorem dksX1_init_2 : cX1_init.data.toList.drop 48 = dktX1_init_2 := dk_seg dksX1_init_1 24 rfl rfl
theorem dksX1_init_3 : cX1_init.data.toList.drop 72 = dktX1_init_3 := dk_seg dksX1_init_2 24 rfl rfl
theorem dksX1_init_4 : cX1_init.data.toList.drop 94 = dktX1_init_4 := dk_seg dksX1_init_3 22 rfl rfl
theorem dX1_init_0 : decode cX1_init 0 = .ok (.aload_n 0, 1) := dk_42 (dk_at dksX1_init_0 0 rfl rfl)
theorem dX1_init_1 : decode cX1_init 1 = .ok (.invokespecial 3, 3) := dk_183 0 3 (dk_at dksX1_init_0 1 rfl rfl)
theorem dX1_init_4 : decode cX1_init 4 = .ok (.aload_n 0, 1) := dk_42 (dk_at dksX1_init_0 4 rfl rfl)
theorem dX1_init_5 : decode cX1_init 5 = .ok (.new 9, 3) := dk_187 0 9 (dk_at dksX1_init_0 5 rfl rfl)
theorem dX1_init_8 : decode cX1_init 8 = .ok (.dup, 1) := dk_89 (dk_at dksX1_init_0 8 rfl rfl)
theorem dX1_init_9 : decode cX1_init 9 = .ok (.invokespecial 11, 3) := dk_183 0 11 (dk_at dksX1_init_0 9 rfl rfl)
theorem dX1_init_12 : decode cX1_init 12 = .ok (.putfield 12, 3) := dk_181 0 12 (dk_at dksX1_init_0 12 rfl rfl)
theorem dX1_init_15 : decode cX1_init 15 = .ok (.aload_n 0, 1) := dk_42 (dk_at dksX1_init_0 15 rfl rfl)
theorem dX1_init_16 : decode cX1_init 16 = .ok (.new 18, 3) := dk_187 0 18 (dk_at dksX1_init_0 16 rfl rfl)
theorem dX1_init_19 : decode cX1_init 19 = .ok (.dup, 1) := dk_89 (dk_at dksX1_init_0 19 rfl rfl)
theorem dX1_init_20 : decode cX1_init 20 = .ok (.iconst 2, 1) := dk_5 (dk_at dksX1_init_0 20 rfl rfl)
theorem dX1_init_21 : decode cX1_init 21 = .ok (.invokespecial 20, 3) := dk_183 0 20 (dk_at dksX1_init_0 21 rfl rfl)
theorem dX1_init_24 : decode cX1_init 24 = .ok (.putfield 23, 3) := dk_181 0 23 (dk_at dksX1_init_1 0 rfl rfl)
theorem dX1_init_27 : decode cX1_init 27 = .ok (.aload_n 0, 1) := dk_42 (dk_at dksX1_init_1 3 rfl rfl)
theorem dX1_init_28 : decode cX1_init 28 = .ok (.new 18, 3) := dk_187 0 18 (dk_at dksX1_init_1 4 rfl rfl)
theorem dX1_init_31 : decode cX1_init 31 = .ok (.dup, 1) := dk_89 (dk_at dksX1_init_1 7 rfl rfl)
theorem dX1_init_32 : decode cX1_init 32 = .ok (.iconst 2, 1) := dk_5 (dk_at dksX1_init_1 8 rfl rfl)
theorem dX1_init_33 : decode cX1_init 33 = .ok (.invokespecial 20, 3) := dk_183 0 20 (dk_at dksX1_init_1 9 rfl rfl)
theorem dX1_init_36 : decode cX1_init 36 = .ok (.putfield 27, 3) := dk_181 0 27 (dk_at dksX1_init_1 12 rfl rfl)
theorem dX1_init_39 : decode cX1_init 39 = .ok (.aload_n 0, 1) := dk_42 (dk_at dksX1_init_1 15 rfl rfl)
theorem dX1_init_40 : decode cX1_init 40 = .ok (.iconst 4, 1) := dk_7 (dk_at dksX1_init_1 16 rfl rfl)
theorem dX1_init_41 : decode cX1_init 41 = .ok (.newarray .int, 2) := dk_188_10 (dk_at dksX1_init_1 17 rfl rfl)
theorem dX1_init_43 : decode cX1_init 43 = .ok (.dup, 1) := dk_89 (dk_at dksX1_init_1 19 rfl rfl)
theorem dX1_init_44 : decode cX1_init 44 = .ok (.iconst 0, 1) := dk_3 (dk_at dksX1_init_1 20 rfl rfl)
theorem dX1_init_45 : decode cX1_init 45 = .ok (.iconst 1, 1) := dk_4 (dk_at dksX1_init_1 21 rfl rfl)
theorem dX1_init_46 : decode cX1_init 46 = .ok (.iastore, 1) := dk_79 (dk_at dksX1_init_1 22 rfl rfl)
theorem dX1_init_47 : decode cX1_init 47 = .ok (.dup, 1) := dk_89 (dk_at dksX1_init_1 23 rfl rfl)
theorem dX1_init_48 : decode cX1_init 48 = .ok (.iconst 1, 1) := dk_4 (dk_at dksX1_init_2 0 rfl rfl)
theorem dX1_init_49 : decode cX1_init 49 = .ok (.iconst 1, 1) := dk_4 (dk_at dksX1_init_2 1 rfl rfl)
theorem dX1_init_50 : decode cX1_init 50 = .ok (.iastore, 1) := dk_79 (dk_at dksX1_init_2 2 rfl rfl)
theorem dX1_init_51 : decode cX1_init 51 = .ok (.dup, 1) := dk_89 (dk_at dksX1_init_2 3 rfl rfl)
theorem dX1_init_52 : decode cX1_init 52 = .ok (.iconst 2, 1) := dk_5 (dk_at dksX1_init_2 4 rfl rfl)
theorem dX1_init_53 : decode cX1_init 53 = .ok (.iconst 1, 1) := dk_4 (dk_at dksX1_init_2 5 rfl rfl)
theorem dX1_init_54 : decode cX1_init 54 = .ok (.iastore, 1) := dk_79 (dk_at dksX1_init_2 6 rfl rfl)
theorem dX1_init_55 : decode cX1_init 55 = .ok (.dup, 1) := dk_89 (dk_at dksX1_init_2 7 rfl rfl)
theorem dX1_init_56 : decode cX1_init 56 = .ok (.iconst 3, 1) := dk_6 (dk_at dksX1_init_2 8 rfl rfl)
theorem dX1_init_57 : decode cX1_init 57 = .ok (.iconst 1, 1) := dk_4 (dk_at dksX1_init_2 9 rfl rfl)
theorem dX1_init_58 : decode cX1_init 58 = .ok (.iastore, 1) := dk_79 (dk_at dksX1_init_2 10 rfl rfl)
theorem dX1_init_59 : decode cX1_init 59 = .ok (.putfield 30, 3) := dk_181 0 30 (dk_at dksX1_init_2 11 rfl rfl)
theorem dX1_init_62 : decode cX1_init 62 = .ok (.aload_n 0, 1) := dk_42 (dk_at dksX1_init_2 14 rfl rfl)
theorem dX1_init_63 : decode cX1_init 63 = .ok (.iconst 4, 1) := dk_7 (dk_at dksX1_init_2 15 rfl rfl)
theorem dX1_init_64 : decode cX1_init 64 = .ok (.newarray .int, 2) := dk_188_10 (dk_at dksX1_init_2 16 rfl rfl)
theorem dX1_init_66 : decode cX1_init 66 = .ok (.dup, 1) := dk_89 (dk_at dksX1_init_2 18 rfl rfl)
theorem dX1_init_67 : decode cX1_init 67 = .ok (.iconst 0, 1) := dk_3 (dk_at dksX1_init_2 19 rfl rfl)
theorem dX1_init_68 : decode cX1_init 68 = .ok (.bipush 100, 2) := dk_16 100 (dk_at dksX1_init_2 20 rfl rfl)
theorem dX1_init_70 : decode cX1_init 70 = .ok (.iastore, 1) := dk_79 (dk_at dksX1_init_2 22 rfl rfl)
theorem dX1_init_71 : decode cX1_init 71 = .ok (.dup, 1) := dk_89 (dk_at dksX1_init_2 23 rfl rfl)
theorem dX1_init_72 : decode cX1_init 72 = .ok (.iconst 1, 1) := dk_4 (dk_at dksX1_init_3 0 rfl rfl)
theorem dX1_init_73 : decode cX1_init 73 = .ok (.bipush 100, 2) := dk_16 100 (dk_at dksX1_init_3 1 rfl rfl)
theorem dX1_init_75 : decode cX1_init 75 = .ok (.iastore, 1) := dk_79 (dk_at dksX1_init_3 3 rfl rfl)
theorem dX1_init_76 : decode cX1_init 76 = .ok (.dup, 1) := dk_89 (dk_at dksX1_init_3 4 rfl rfl)
theorem dX1_init_77 : decode cX1_init 77 = .ok (.iconst 2, 1) := dk_5 (dk_at dksX1_init_3 5 rfl rfl)
theorem dX1_init_78 : decode cX1_init 78 = .ok (.bipush 100, 2) := dk_16 100 (dk_at dksX1_init_3 6 rfl rfl)
theorem dX1_init_80 : decode cX1_init 80 = .ok (.iastore, 1) := dk_79 (dk_at dksX1_init_3 8 rfl rfl)
theorem dX1_init_81 : decode cX1_init 81 = .ok (.dup, 1) := dk_89 (dk_at dksX1_init_3 9 rfl rfl)
theorem dX1_init_82 : decode cX1_init 82 = .ok (.iconst 3, 1) := dk_6 (dk_at dksX1_init_3 10 rfl rfl)
theorem dX1_init_83 : decode cX1_init 83 = .ok (.bipush 100, 2) := dk_16 100 (dk_at dksX1_init_3 11 rfl rfl)
theorem dX1_init_85 : decode cX1_init 85 = .ok (.iastore, 1) := dk_79 (dk_at dksX1_init_3 13 rfl rfl)
theorem dX1_init_86 : decode cX1_init 86 = .ok (.putfield 34, 3) := dk_181 0 34 (dk_at dksX1_init_3 14 rfl rfl)
theorem dX1_init_89 : decode cX1_init 89 = .ok (.aload_n 0, 1) := dk_42 (dk_at dksX1_init_3 17 rfl rfl)
theorem dX1_init_90 : decode cX1_init 90 = .ok (.bipush 20, 2) := dk_16 20 (dk_at dksX1_init_3 18 rfl rfl)
theorem dX1_init_92 : decode cX1_init 92 = .ok (.newarray .int, 2) := dk_188_10 (dk_at dksX1_init_3 20 rfl rfl)
theorem dX1_init_94 : decode cX1_init 94 = .ok (.putfield 37, 3) := dk_181 0 37 (dk_at dksX1_init_4 0 rfl rfl)
theorem dX1_init_97 : decode cX1_init 97 = .ok (.return_, 1) := dk_177 (dk_at dksX1_init_4 3 rfl rfl)
abbrev cX1_copy : ByteArray := prog_16_method_2_code
def yX1_copy : MethodName := ⟨RX1, "copy", "()LFootOut$State;"⟩
def dkwX1_copy_5 : List UInt8 := [28, 42, 180, 0, 37, 28, 46, 79, 132, 2, 1, 167, 255, 232, 43, 176]
abbrev dktX1_copy_5 : List UInt8 := dkwX1_copy_5 ++ []
def dkwX1_copy_4 : List UInt8 := [28, 46, 79, 132, 2, 1, 167, 255, 224, 3, 61, 28, 42, 180, 0, 37, 190, 162, 0, 21, 43, 180, 0, 37]
abbrev dktX1_copy_4 : List UInt8 := dkwX1_copy_4 ++ dktX1_copy_5
def dkwX1_copy_3 : List UInt8 := [162, 0, 33, 43, 180, 0, 30, 28, 42, 180, 0, 30, 28, 46, 79, 43, 180, 0, 34, 28, 42, 180, 0, 34]
abbrev dktX1_copy_3 : List UInt8 := dkwX1_copy_3 ++ dktX1_copy_4
def dkwX1_copy_2 : List UInt8 := [28, 182, 0, 49, 192, 0, 53, 182, 0, 55, 182, 0, 58, 87, 132, 2, 1, 167, 255, 220, 3, 61, 28, 7]
abbrev dktX1_copy_2 : List UInt8 := dkwX1_copy_2 ++ dktX1_copy_3
def dkwX1_copy_1 : List UInt8 := [181, 0, 23, 3, 61, 28, 42, 180, 0, 27, 182, 0, 45, 162, 0, 31, 43, 180, 0, 27, 42, 180, 0, 27]
abbrev dktX1_copy_1 : List UInt8 := dkwX1_copy_1 ++ dktX1_copy_2
def dkwX1_copy_0 : List UInt8 := [187, 0, 13, 89, 183, 0, 40, 76, 43, 42, 180, 0, 12, 182, 0, 41, 181, 0, 12, 43, 42, 180, 0, 23]
abbrev dktX1_copy_0 : List UInt8 := dkwX1_copy_0 ++ dktX1_copy_1
theorem dksX1_copy_0 : cX1_copy.data.toList.drop 0 = dktX1_copy_0 := by decide +kernel
theorem dksX1_copy_1 : cX1_copy.data.toList.drop 24 = dktX1_copy_1 := dk_seg dksX1_copy_0 24 rfl rfl
theorem dksX1_copy_2 : cX1_copy.data.toList.drop 48 = dktX1_copy_2 := dk_seg dksX1_copy_1 24 rfl rfl
theorem dksX1_copy_3 : cX1_copy.data.toList.drop 72 = dktX1_copy_3 := dk_seg dksX1_copy_2 24 rfl rfl
theorem dksX1_copy_4 : cX1_copy.data.toList.drop 96 = dktX1_copy_4 := dk_seg dksX1_copy_3 24 rfl rfl
theorem dksX1_copy_5 : cX1_copy.data.toList.drop 120 = dktX1_copy_5 := dk_seg dksX1_copy_4 24 rfl rfl
theorem dX1_copy_0 : decode cX1_copy 0 = .ok (.new 13, 3) := dk_187 0 13 (dk_at dksX1_copy_0 0 rfl rfl)
theorem dX1_copy_3 : decode cX1_copy 3 = .ok (.dup, 1) := dk_89 (dk_at dksX1_copy_0 3 rfl rfl)
theorem dX1_copy_4 : decode cX1_copy 4 = .ok (.invokespecial 40, 3) := dk_183 0 40 (dk_at dksX1_copy_0 4 rfl rfl)
theorem dX1_copy_7 : decode cX1_copy 7 = .ok (.astore_n 1, 1) := dk_76 (dk_at dksX1_copy_0 7 rfl rfl)
theorem dX1_copy_8 : decode cX1_copy 8 = .ok (.aload_n 1, 1) := dk_43 (dk_at dksX1_copy_0 8 rfl rfl)
theorem dX1_copy_9 : decode cX1_copy 9 = .ok (.aload_n 0, 1) := dk_42 (dk_at dksX1_copy_0 9 rfl rfl)
theorem dX1_copy_10 : decode cX1_copy 10 = .ok (.getfield 12, 3) := dk_180 0 12 (dk_at dksX1_copy_0 10 rfl rfl)
theorem dX1_copy_13 : decode cX1_copy 13 = .ok (.invokevirtual 41, 3) := dk_182 0 41 (dk_at dksX1_copy_0 13 rfl rfl)
theorem dX1_copy_16 : decode cX1_copy 16 = .ok (.putfield 12, 3) := dk_181 0 12 (dk_at dksX1_copy_0 16 rfl rfl)
theorem dX1_copy_19 : decode cX1_copy 19 = .ok (.aload_n 1, 1) := dk_43 (dk_at dksX1_copy_0 19 rfl rfl)
theorem dX1_copy_20 : decode cX1_copy 20 = .ok (.aload_n 0, 1) := dk_42 (dk_at dksX1_copy_0 20 rfl rfl)
theorem dX1_copy_21 : decode cX1_copy 21 = .ok (.getfield 23, 3) := dk_180 0 23 (dk_at dksX1_copy_0 21 rfl rfl)
theorem dX1_copy_24 : decode cX1_copy 24 = .ok (.putfield 23, 3) := dk_181 0 23 (dk_at dksX1_copy_1 0 rfl rfl)
theorem dX1_copy_27 : decode cX1_copy 27 = .ok (.iconst 0, 1) := dk_3 (dk_at dksX1_copy_1 3 rfl rfl)
theorem dX1_copy_28 : decode cX1_copy 28 = .ok (.istore_n 2, 1) := dk_61 (dk_at dksX1_copy_1 4 rfl rfl)
theorem dX1_copy_29 : decode cX1_copy 29 = .ok (.iload_n 2, 1) := dk_28 (dk_at dksX1_copy_1 5 rfl rfl)
theorem dX1_copy_30 : decode cX1_copy 30 = .ok (.aload_n 0, 1) := dk_42 (dk_at dksX1_copy_1 6 rfl rfl)
theorem dX1_copy_31 : decode cX1_copy 31 = .ok (.getfield 27, 3) := dk_180 0 27 (dk_at dksX1_copy_1 7 rfl rfl)
theorem dX1_copy_34 : decode cX1_copy 34 = .ok (.invokevirtual 45, 3) := dk_182 0 45 (dk_at dksX1_copy_1 10 rfl rfl)
theorem dX1_copy_37 : decode cX1_copy 37 = .ok (.if_icmp .ge 31, 3) := dk_162 0 31 (dk_at dksX1_copy_1 13 rfl rfl)
theorem dX1_copy_40 : decode cX1_copy 40 = .ok (.aload_n 1, 1) := dk_43 (dk_at dksX1_copy_1 16 rfl rfl)
theorem dX1_copy_41 : decode cX1_copy 41 = .ok (.getfield 27, 3) := dk_180 0 27 (dk_at dksX1_copy_1 17 rfl rfl)
theorem dX1_copy_44 : decode cX1_copy 44 = .ok (.aload_n 0, 1) := dk_42 (dk_at dksX1_copy_1 20 rfl rfl)
theorem dX1_copy_45 : decode cX1_copy 45 = .ok (.getfield 27, 3) := dk_180 0 27 (dk_at dksX1_copy_1 21 rfl rfl)
theorem dX1_copy_48 : decode cX1_copy 48 = .ok (.iload_n 2, 1) := dk_28 (dk_at dksX1_copy_2 0 rfl rfl)
theorem dX1_copy_49 : decode cX1_copy 49 = .ok (.invokevirtual 49, 3) := dk_182 0 49 (dk_at dksX1_copy_2 1 rfl rfl)
theorem dX1_copy_52 : decode cX1_copy 52 = .ok (.checkcast 53, 3) := dk_192 0 53 (dk_at dksX1_copy_2 4 rfl rfl)
theorem dX1_copy_55 : decode cX1_copy 55 = .ok (.invokevirtual 55, 3) := dk_182 0 55 (dk_at dksX1_copy_2 7 rfl rfl)
theorem dX1_copy_58 : decode cX1_copy 58 = .ok (.invokevirtual 58, 3) := dk_182 0 58 (dk_at dksX1_copy_2 10 rfl rfl)
theorem dX1_copy_61 : decode cX1_copy 61 = .ok (.pop, 1) := dk_87 (dk_at dksX1_copy_2 13 rfl rfl)
theorem dX1_copy_62 : decode cX1_copy 62 = .ok (.iinc 2 1, 3) := dk_132 2 1 (dk_at dksX1_copy_2 14 rfl rfl)
theorem dX1_copy_65 : decode cX1_copy 65 = .ok (.goto (-36), 3) := dk_167 255 220 (dk_at dksX1_copy_2 17 rfl rfl)
theorem dX1_copy_68 : decode cX1_copy 68 = .ok (.iconst 0, 1) := dk_3 (dk_at dksX1_copy_2 20 rfl rfl)
theorem dX1_copy_69 : decode cX1_copy 69 = .ok (.istore_n 2, 1) := dk_61 (dk_at dksX1_copy_2 21 rfl rfl)
theorem dX1_copy_70 : decode cX1_copy 70 = .ok (.iload_n 2, 1) := dk_28 (dk_at dksX1_copy_2 22 rfl rfl)
theorem dX1_copy_71 : decode cX1_copy 71 = .ok (.iconst 4, 1) := dk_7 (dk_at dksX1_copy_2 23 rfl rfl)
theorem dX1_copy_72 : decode cX1_copy 72 = .ok (.if_icmp .ge 33, 3) := dk_162 0 33 (dk_at dksX1_copy_3 0 rfl rfl)
theorem dX1_copy_75 : decode cX1_copy 75 = .ok (.aload_n 1, 1) := dk_43 (dk_at dksX1_copy_3 3 rfl rfl)
theorem dX1_copy_76 : decode cX1_copy 76 = .ok (.getfield 30, 3) := dk_180 0 30 (dk_at dksX1_copy_3 4 rfl rfl)
theorem dX1_copy_79 : decode cX1_copy 79 = .ok (.iload_n 2, 1) := dk_28 (dk_at dksX1_copy_3 7 rfl rfl)
theorem dX1_copy_80 : decode cX1_copy 80 = .ok (.aload_n 0, 1) := dk_42 (dk_at dksX1_copy_3 8 rfl rfl)
theorem dX1_copy_81 : decode cX1_copy 81 = .ok (.getfield 30, 3) := dk_180 0 30 (dk_at dksX1_copy_3 9 rfl rfl)
theorem dX1_copy_84 : decode cX1_copy 84 = .ok (.iload_n 2, 1) := dk_28 (dk_at dksX1_copy_3 12 rfl rfl)
theorem dX1_copy_85 : decode cX1_copy 85 = .ok (.iaload, 1) := dk_46 (dk_at dksX1_copy_3 13 rfl rfl)
theorem dX1_copy_86 : decode cX1_copy 86 = .ok (.iastore, 1) := dk_79 (dk_at dksX1_copy_3 14 rfl rfl)
theorem dX1_copy_87 : decode cX1_copy 87 = .ok (.aload_n 1, 1) := dk_43 (dk_at dksX1_copy_3 15 rfl rfl)
theorem dX1_copy_88 : decode cX1_copy 88 = .ok (.getfield 34, 3) := dk_180 0 34 (dk_at dksX1_copy_3 16 rfl rfl)
theorem dX1_copy_91 : decode cX1_copy 91 = .ok (.iload_n 2, 1) := dk_28 (dk_at dksX1_copy_3 19 rfl rfl)
theorem dX1_copy_92 : decode cX1_copy 92 = .ok (.aload_n 0, 1) := dk_42 (dk_at dksX1_copy_3 20 rfl rfl)
theorem dX1_copy_93 : decode cX1_copy 93 = .ok (.getfield 34, 3) := dk_180 0 34 (dk_at dksX1_copy_3 21 rfl rfl)
theorem dX1_copy_96 : decode cX1_copy 96 = .ok (.iload_n 2, 1) := dk_28 (dk_at dksX1_copy_4 0 rfl rfl)
theorem dX1_copy_97 : decode cX1_copy 97 = .ok (.iaload, 1) := dk_46 (dk_at dksX1_copy_4 1 rfl rfl)
theorem dX1_copy_98 : decode cX1_copy 98 = .ok (.iastore, 1) := dk_79 (dk_at dksX1_copy_4 2 rfl rfl)
theorem dX1_copy_99 : decode cX1_copy 99 = .ok (.iinc 2 1, 3) := dk_132 2 1 (dk_at dksX1_copy_4 3 rfl rfl)
theorem dX1_copy_102 : decode cX1_copy 102 = .ok (.goto (-32), 3) := dk_167 255 224 (dk_at dksX1_copy_4 6 rfl rfl)
theorem dX1_copy_105 : decode cX1_copy 105 = .ok (.iconst 0, 1) := dk_3 (dk_at dksX1_copy_4 9 rfl rfl)
theorem dX1_copy_106 : decode cX1_copy 106 = .ok (.istore_n 2, 1) := dk_61 (dk_at dksX1_copy_4 10 rfl rfl)
theorem dX1_copy_107 : decode cX1_copy 107 = .ok (.iload_n 2, 1) := dk_28 (dk_at dksX1_copy_4 11 rfl rfl)
theorem dX1_copy_108 : decode cX1_copy 108 = .ok (.aload_n 0, 1) := dk_42 (dk_at dksX1_copy_4 12 rfl rfl)
theorem dX1_copy_109 : decode cX1_copy 109 = .ok (.getfield 37, 3) := dk_180 0 37 (dk_at dksX1_copy_4 13 rfl rfl)
theorem dX1_copy_112 : decode cX1_copy 112 = .ok (.arraylength, 1) := dk_190 (dk_at dksX1_copy_4 16 rfl rfl)
theorem dX1_copy_113 : decode cX1_copy 113 = .ok (.if_icmp .ge 21, 3) := dk_162 0 21 (dk_at dksX1_copy_4 17 rfl rfl)
theorem dX1_copy_116 : decode cX1_copy 116 = .ok (.aload_n 1, 1) := dk_43 (dk_at dksX1_copy_4 20 rfl rfl)
theorem dX1_copy_117 : decode cX1_copy 117 = .ok (.getfield 37, 3) := dk_180 0 37 (dk_at dksX1_copy_4 21 rfl rfl)
theorem dX1_copy_120 : decode cX1_copy 120 = .ok (.iload_n 2, 1) := dk_28 (dk_at dksX1_copy_5 0 rfl rfl)
theorem dX1_copy_121 : decode cX1_copy 121 = .ok (.aload_n 0, 1) := dk_42 (dk_at dksX1_copy_5 1 rfl rfl)
theorem dX1_copy_122 : decode cX1_copy 122 = .ok (.getfield 37, 3) := dk_180 0 37 (dk_at dksX1_copy_5 2 rfl rfl)
theorem dX1_copy_125 : decode cX1_copy 125 = .ok (.iload_n 2, 1) := dk_28 (dk_at dksX1_copy_5 5 rfl rfl)
theorem dX1_copy_126 : decode cX1_copy 126 = .ok (.iaload, 1) := dk_46 (dk_at dksX1_copy_5 6 rfl rfl)
theorem dX1_copy_127 : decode cX1_copy 127 = .ok (.iastore, 1) := dk_79 (dk_at dksX1_copy_5 7 rfl rfl)
theorem dX1_copy_128 : decode cX1_copy 128 = .ok (.iinc 2 1, 3) := dk_132 2 1 (dk_at dksX1_copy_5 8 rfl rfl)
theorem dX1_copy_131 : decode cX1_copy 131 = .ok (.goto (-24), 3) := dk_167 255 232 (dk_at dksX1_copy_5 11 rfl rfl)
theorem dX1_copy_134 : decode cX1_copy 134 = .ok (.aload_n 1, 1) := dk_43 (dk_at dksX1_copy_5 14 rfl rfl)
theorem dX1_copy_135 : decode cX1_copy 135 = .ok (.areturn, 1) := dk_176 (dk_at dksX1_copy_5 15 rfl rfl)
theorem q125 : (Jvm.Cond.initialized "FootOut$State") ∈ lw_all := lw_g (lw_at lw_m1 2 rfl) rfl
theorem q173 : (Jvm.Cond.instantiable "FootOut$State" (6 : Nat)) ∈ lw_all := lw_g (lw_at lw_m1 50 rfl) rfl
theorem q175 : (Jvm.Cond.instanceMethod ({ cls := "FootOut$State", name := "<init>", desc := "()V" } : Jvm.MethodName)) ∈ lw_all := lw_g (lw_at lw_m1 52 rfl) rfl
theorem q176 : (Jvm.Cond.code ({ cls := "FootOut$State", name := "<init>", desc := "()V" } : Jvm.MethodName) prog_16_method_1_code (1 : Nat) (Option.none : Option Jvm.ClassFile.FieldType)) ∈ lw_all := lw_g (lw_at lw_m1 53 rfl) rfl
theorem q177 : (Jvm.Cond.methodLink "FootOut$State" (3 : Nat) ({ cls := "java/lang/Object", name := "<init>", desc := "()V" } : Jvm.MethodName)) ∈ lw_all := lw_g (lw_at lw_m1 54 rfl) rfl
theorem q178 : (Jvm.Cond.classLink "FootOut$State" (9 : Nat) "FootOut$Scene") ∈ lw_all := lw_g (lw_at lw_m1 55 rfl) rfl
theorem q180 : (Jvm.Cond.methodLinkNest "FootOut$State" (11 : Nat) ({ cls := "FootOut$Scene", name := "<init>", desc := "()V" } : Jvm.MethodName) "FootOut") ∈ lw_tbl := lw_at lw_m1 57 rfl
theorem q258 : (Jvm.Cond.classLink "FootOut$State" (18 : Nat) "java/util/ArrayList") ∈ lw_all := lw_g (lw_at lw_m1 135 rfl) rfl
theorem q259 : (Jvm.Cond.methodLink "FootOut$State" (20 : Nat) ({ cls := "java/util/ArrayList", name := "<init>", desc := "(I)V" } : Jvm.MethodName)) ∈ lw_all := lw_g (lw_at lw_m1 136 rfl) rfl
theorem q260 : (Jvm.Cond.fieldLink "FootOut$State" (12 : Nat) "FootOut$State" "scene" "LFootOut$Scene;") ∈ lw_all := lw_g (lw_at lw_m1 137 rfl) rfl
theorem q262 : (Jvm.Cond.fieldLink "FootOut$State" (23 : Nat) "FootOut$State" "law" "Ljava/util/ArrayList;") ∈ lw_all := lw_g (lw_at lw_m1 139 rfl) rfl
theorem q264 : (Jvm.Cond.fieldLink "FootOut$State" (27 : Nat) "FootOut$State" "places" "Ljava/util/ArrayList;") ∈ lw_all := lw_g (lw_at lw_m1 141 rfl) rfl
theorem q266 : (Jvm.Cond.fieldLink "FootOut$State" (30 : Nat) "FootOut$State" "cost" "[I") ∈ lw_all := lw_g (lw_at lw_m1 143 rfl) rfl
theorem q268 : (Jvm.Cond.fieldLink "FootOut$State" (34 : Nat) "FootOut$State" "left" "[I") ∈ lw_all := lw_g (lw_at lw_m1 145 rfl) rfl
theorem q270 : (Jvm.Cond.fieldLink "FootOut$State" (37 : Nat) "FootOut$State" "pay" "[I") ∈ lw_all := lw_g (lw_at lw_m1 147 rfl) rfl
theorem q272 : (Jvm.Cond.lays "FootOut$State" "FootOut$State" "scene" "LFootOut$Scene;") ∈ lw_all := lw_g (lw_at lw_m1 149 rfl) rfl
theorem q273 : (Jvm.Cond.soleField "FootOut$State" "scene") ∈ lw_all := lw_g (lw_at lw_m1 150 rfl) rfl
theorem q274 : (Jvm.Cond.lays "FootOut$State" "FootOut$State" "law" "Ljava/util/ArrayList;") ∈ lw_all := lw_g (lw_at lw_m1 151 rfl) rfl
theorem q275 : (Jvm.Cond.soleField "FootOut$State" "law") ∈ lw_all := lw_g (lw_at lw_m1 152 rfl) rfl
theorem q276 : (Jvm.Cond.laysFinal "FootOut$State" "FootOut$State" "places" "Ljava/util/ArrayList;") ∈ lw_all := lw_g (lw_at lw_m1 153 rfl) rfl
theorem q277 : (Jvm.Cond.soleField "FootOut$State" "places") ∈ lw_all := lw_g (lw_at lw_m1 154 rfl) rfl
theorem q278 : (Jvm.Cond.laysFinal "FootOut$State" "FootOut$State" "cost" "[I") ∈ lw_all := lw_g (lw_at lw_m1 155 rfl) rfl
theorem q279 : (Jvm.Cond.soleField "FootOut$State" "cost") ∈ lw_all := lw_g (lw_at lw_m1 156 rfl) rfl
theorem q280 : (Jvm.Cond.laysFinal "FootOut$State" "FootOut$State" "left" "[I") ∈ lw_all := lw_g (lw_at lw_m1 157 rfl) rfl
theorem q281 : (Jvm.Cond.soleField "FootOut$State" "left") ∈ lw_all := lw_g (lw_at lw_m1 158 rfl) rfl
theorem q282 : (Jvm.Cond.laysFinal "FootOut$State" "FootOut$State" "pay" "[I") ∈ lw_all := lw_g (lw_at lw_m1 159 rfl) rfl
theorem q283 : (Jvm.Cond.soleField "FootOut$State" "pay") ∈ lw_all := lw_g (lw_at lw_m1 160 rfl) rfl
theorem q284 : (Jvm.Cond.superclass "FootOut$State" "java/lang/Object") ∈ lw_all := lw_g (lw_at lw_m1 161 rfl) rfl
theorem q690 : (Jvm.Cond.selects "FootOut$State" ({ cls := "java/lang/Object", name := "getClass", desc := "()Ljava/lang/Class;" } : Jvm.MethodName) ({ cls := "java/lang/Object", name := "getClass", desc := "()Ljava/lang/Class;" } : Jvm.MethodName)) ∈ lw_all := lw_g (lw_at lw_m3 87 rfl) rfl
theorem q1584 : (Jvm.Cond.instanceMethod ({ cls := "FootOut$State", name := "copy", desc := "()LFootOut$State;" } : Jvm.MethodName)) ∈ lw_all := lw_g (lw_at lw_m7 21 rfl) rfl
theorem q1585 : (Jvm.Cond.selects "FootOut$State" ({ cls := "FootOut$State", name := "copy", desc := "()LFootOut$State;" } : Jvm.MethodName) ({ cls := "FootOut$State", name := "copy", desc := "()LFootOut$State;" } : Jvm.MethodName)) ∈ lw_all := lw_g (lw_at lw_m7 22 rfl) rfl
theorem q1586 : (Jvm.Cond.code ({ cls := "FootOut$State", name := "copy", desc := "()LFootOut$State;" } : Jvm.MethodName) prog_16_method_2_code (3 : Nat) (Option.some (Jvm.ClassFile.FieldType.object "FootOut$State"))) ∈ lw_all := lw_g (lw_at lw_m7 23 rfl) rfl
theorem q1587 : (Jvm.Cond.classLink "FootOut$State" (13 : Nat) "FootOut$State") ∈ lw_all := lw_g (lw_at lw_m7 24 rfl) rfl
theorem q1588 : (Jvm.Cond.methodLink "FootOut$State" (40 : Nat) ({ cls := "FootOut$State", name := "<init>", desc := "()V" } : Jvm.MethodName)) ∈ lw_all := lw_g (lw_at lw_m7 25 rfl) rfl
theorem q1589 : (Jvm.Cond.methodLink "FootOut$State" (41 : Nat) ({ cls := "FootOut$Scene", name := "copy", desc := "()LFootOut$Scene;" } : Jvm.MethodName)) ∈ lw_all := lw_g (lw_at lw_m7 26 rfl) rfl
theorem q1590 : (Jvm.Cond.methodLink "FootOut$State" (45 : Nat) ({ cls := "java/util/ArrayList", name := "size", desc := "()I" } : Jvm.MethodName)) ∈ lw_all := lw_g (lw_at lw_m7 27 rfl) rfl
theorem q1591 : (Jvm.Cond.methodLink "FootOut$State" (49 : Nat) ({ cls := "java/util/ArrayList", name := "get", desc := "(I)Ljava/lang/Object;" } : Jvm.MethodName)) ∈ lw_all := lw_g (lw_at lw_m7 28 rfl) rfl
theorem q1592 : (Jvm.Cond.classLink "FootOut$State" (53 : Nat) "FootOut$Place") ∈ lw_all := lw_g (lw_at lw_m7 29 rfl) rfl
theorem q1593 : (Jvm.Cond.methodLink "FootOut$State" (55 : Nat) ({ cls := "FootOut$Place", name := "copy", desc := "()LFootOut$Place;" } : Jvm.MethodName)) ∈ lw_all := lw_g (lw_at lw_m7 30 rfl) rfl
theorem q1599 : (Jvm.Cond.methodLink "FootOut$State" (58 : Nat) ({ cls := "java/util/ArrayList", name := "add", desc := "(Ljava/lang/Object;)Z" } : Jvm.MethodName)) ∈ lw_all := lw_g (lw_at lw_m7 36 rfl) rfl
theorem q2206 : (Jvm.Cond.castable "FootOut$State" "java/lang/Object") ∈ lw_tbl := lw_at lw_m9 163 rfl
theorem in_X1 : ∀ w ∈ wsX10, w ∈ lw_all := lw_in wsX10 [272, 274, 276, 278, 280, 282] (by decide +kernel) (by decide +kernel)

/-! FootOut$Scene -/
set_option maxRecDepth 100000
def RX2 : String := "FootOut$Scene"
def TX2 : u_T := fun k => match k with
  | 0 => ("FootOut$Scene", "cars", "Ljava/util/ArrayList;", true)
  | 1 => ("FootOut$Scene", "lanes", "I", false)
  | 2 => ("FootOut$Scene", "traits", "I", false)
  | 3 => ("FootOut$Scene", "line", "I", false)
  | 4 => ("FootOut$Scene", "gap", "I", false)
  | 5 => ("FootOut$Scene", "waits", "I", false)
  | 6 => ("FootOut$Scene", "sight", "I", false)
  | _ => ("FootOut$Scene", "lines", "I", false)
def tyX2 : Nat → FieldType := fun k => match k with
  | 0 => .object "java/util/ArrayList"
  | 1 => .int
  | 2 => .int
  | 3 => .int
  | 4 => .int
  | 5 => .int
  | 6 => .int
  | _ => .int
abbrev wsX20 : List Cond := u_ws RX2 TX2 8
theorem nmX2 : ∀ a, a < 8 → ∀ b, b < 8 → a ≠ b → (TX2 a).2.1 ≠ (TX2 b).2.1 := by decide +kernel
theorem tyX2_ok : ∀ k, k < 8 → parseFieldDescriptor (TX2 k).2.2.1 = some (tyX2 k) := by decide +kernel
abbrev cX2_init : ByteArray := prog_14_method_1_code
def yX2_init : MethodName := ⟨RX2, "<init>", "()V"⟩
def dkwX2_init_1 : List UInt8 := [181, 0, 24, 42, 16, 20, 181, 0, 27, 42, 16, 40, 181, 0, 30, 177]
abbrev dktX2_init_1 : List UInt8 := dkwX2_init_1 ++ []
def dkwX2_init_0 : List UInt8 := [42, 183, 0, 3, 42, 187, 0, 9, 89, 5, 183, 0, 11, 181, 0, 14, 42, 4, 181, 0, 20, 42, 6]
abbrev dktX2_init_0 : List UInt8 := dkwX2_init_0 ++ dktX2_init_1
theorem dksX2_init_0 : cX2_init.data.toList.drop 0 = dktX2_init_0 := by decide +kernel
theorem dksX2_init_1 : cX2_init.data.toList.drop 23 = dktX2_init_1 := dk_seg dksX2_init_0 23 rfl rfl
theorem dX2_init_0 : decode cX2_init 0 = .ok (.aload_n 0, 1) := dk_42 (dk_at dksX2_init_0 0 rfl rfl)
theorem dX2_init_1 : decode cX2_init 1 = .ok (.invokespecial 3, 3) := dk_183 0 3 (dk_at dksX2_init_0 1 rfl rfl)
theorem dX2_init_4 : decode cX2_init 4 = .ok (.aload_n 0, 1) := dk_42 (dk_at dksX2_init_0 4 rfl rfl)
theorem dX2_init_5 : decode cX2_init 5 = .ok (.new 9, 3) := dk_187 0 9 (dk_at dksX2_init_0 5 rfl rfl)
theorem dX2_init_8 : decode cX2_init 8 = .ok (.dup, 1) := dk_89 (dk_at dksX2_init_0 8 rfl rfl)
theorem dX2_init_9 : decode cX2_init 9 = .ok (.iconst 2, 1) := dk_5 (dk_at dksX2_init_0 9 rfl rfl)
theorem dX2_init_10 : decode cX2_init 10 = .ok (.invokespecial 11, 3) := dk_183 0 11 (dk_at dksX2_init_0 10 rfl rfl)
theorem dX2_init_13 : decode cX2_init 13 = .ok (.putfield 14, 3) := dk_181 0 14 (dk_at dksX2_init_0 13 rfl rfl)
theorem dX2_init_16 : decode cX2_init 16 = .ok (.aload_n 0, 1) := dk_42 (dk_at dksX2_init_0 16 rfl rfl)
theorem dX2_init_17 : decode cX2_init 17 = .ok (.iconst 1, 1) := dk_4 (dk_at dksX2_init_0 17 rfl rfl)
theorem dX2_init_18 : decode cX2_init 18 = .ok (.putfield 20, 3) := dk_181 0 20 (dk_at dksX2_init_0 18 rfl rfl)
theorem dX2_init_21 : decode cX2_init 21 = .ok (.aload_n 0, 1) := dk_42 (dk_at dksX2_init_0 21 rfl rfl)
theorem dX2_init_22 : decode cX2_init 22 = .ok (.iconst 3, 1) := dk_6 (dk_at dksX2_init_0 22 rfl rfl)
theorem dX2_init_23 : decode cX2_init 23 = .ok (.putfield 24, 3) := dk_181 0 24 (dk_at dksX2_init_1 0 rfl rfl)
theorem dX2_init_26 : decode cX2_init 26 = .ok (.aload_n 0, 1) := dk_42 (dk_at dksX2_init_1 3 rfl rfl)
theorem dX2_init_27 : decode cX2_init 27 = .ok (.bipush 20, 2) := dk_16 20 (dk_at dksX2_init_1 4 rfl rfl)
theorem dX2_init_29 : decode cX2_init 29 = .ok (.putfield 27, 3) := dk_181 0 27 (dk_at dksX2_init_1 6 rfl rfl)
theorem dX2_init_32 : decode cX2_init 32 = .ok (.aload_n 0, 1) := dk_42 (dk_at dksX2_init_1 9 rfl rfl)
theorem dX2_init_33 : decode cX2_init 33 = .ok (.bipush 40, 2) := dk_16 40 (dk_at dksX2_init_1 10 rfl rfl)
theorem dX2_init_35 : decode cX2_init 35 = .ok (.putfield 30, 3) := dk_181 0 30 (dk_at dksX2_init_1 12 rfl rfl)
theorem dX2_init_38 : decode cX2_init 38 = .ok (.return_, 1) := dk_177 (dk_at dksX2_init_1 15 rfl rfl)
abbrev cX2_get : ByteArray := prog_14_method_3_code
def yX2_get : MethodName := ⟨RX2, "get", "(I)I"⟩
def dkwX2_get_1 : List UInt8 := [5, 160, 0, 10, 42, 180, 0, 27, 167, 0, 7, 42, 180, 0, 30, 172]
abbrev dktX2_get_1 : List UInt8 := dkwX2_get_1 ++ []
def dkwX2_get_0 : List UInt8 := [27, 154, 0, 10, 42, 180, 0, 51, 167, 0, 31, 27, 4, 160, 0, 10, 42, 180, 0, 24, 167, 0, 19, 27]
abbrev dktX2_get_0 : List UInt8 := dkwX2_get_0 ++ dktX2_get_1
theorem dksX2_get_0 : cX2_get.data.toList.drop 0 = dktX2_get_0 := by decide +kernel
theorem dksX2_get_1 : cX2_get.data.toList.drop 24 = dktX2_get_1 := dk_seg dksX2_get_0 24 rfl rfl
theorem dX2_get_0 : decode cX2_get 0 = .ok (.iload_n 1, 1) := dk_27 (dk_at dksX2_get_0 0 rfl rfl)
theorem dX2_get_1 : decode cX2_get 1 = .ok (.ifCond .ne 10, 3) := dk_154 0 10 (dk_at dksX2_get_0 1 rfl rfl)
theorem dX2_get_4 : decode cX2_get 4 = .ok (.aload_n 0, 1) := dk_42 (dk_at dksX2_get_0 4 rfl rfl)
theorem dX2_get_5 : decode cX2_get 5 = .ok (.getfield 51, 3) := dk_180 0 51 (dk_at dksX2_get_0 5 rfl rfl)
theorem dX2_get_8 : decode cX2_get 8 = .ok (.goto 31, 3) := dk_167 0 31 (dk_at dksX2_get_0 8 rfl rfl)
theorem dX2_get_11 : decode cX2_get 11 = .ok (.iload_n 1, 1) := dk_27 (dk_at dksX2_get_0 11 rfl rfl)
theorem dX2_get_12 : decode cX2_get 12 = .ok (.iconst 1, 1) := dk_4 (dk_at dksX2_get_0 12 rfl rfl)
theorem dX2_get_13 : decode cX2_get 13 = .ok (.if_icmp .ne 10, 3) := dk_160 0 10 (dk_at dksX2_get_0 13 rfl rfl)
theorem dX2_get_16 : decode cX2_get 16 = .ok (.aload_n 0, 1) := dk_42 (dk_at dksX2_get_0 16 rfl rfl)
theorem dX2_get_17 : decode cX2_get 17 = .ok (.getfield 24, 3) := dk_180 0 24 (dk_at dksX2_get_0 17 rfl rfl)
theorem dX2_get_20 : decode cX2_get 20 = .ok (.goto 19, 3) := dk_167 0 19 (dk_at dksX2_get_0 20 rfl rfl)
theorem dX2_get_23 : decode cX2_get 23 = .ok (.iload_n 1, 1) := dk_27 (dk_at dksX2_get_0 23 rfl rfl)
theorem dX2_get_24 : decode cX2_get 24 = .ok (.iconst 2, 1) := dk_5 (dk_at dksX2_get_1 0 rfl rfl)
theorem dX2_get_25 : decode cX2_get 25 = .ok (.if_icmp .ne 10, 3) := dk_160 0 10 (dk_at dksX2_get_1 1 rfl rfl)
theorem dX2_get_28 : decode cX2_get 28 = .ok (.aload_n 0, 1) := dk_42 (dk_at dksX2_get_1 4 rfl rfl)
theorem dX2_get_29 : decode cX2_get 29 = .ok (.getfield 27, 3) := dk_180 0 27 (dk_at dksX2_get_1 5 rfl rfl)
theorem dX2_get_32 : decode cX2_get 32 = .ok (.goto 7, 3) := dk_167 0 7 (dk_at dksX2_get_1 8 rfl rfl)
theorem dX2_get_35 : decode cX2_get 35 = .ok (.aload_n 0, 1) := dk_42 (dk_at dksX2_get_1 11 rfl rfl)
theorem dX2_get_36 : decode cX2_get 36 = .ok (.getfield 30, 3) := dk_180 0 30 (dk_at dksX2_get_1 12 rfl rfl)
theorem dX2_get_39 : decode cX2_get 39 = .ok (.ireturn, 1) := dk_172 (dk_at dksX2_get_1 15 rfl rfl)
abbrev cX2_put : ByteArray := prog_14_method_4_code
def yX2_put : MethodName := ⟨RX2, "put", "(II)V"⟩
def dkwX2_put_3 : List UInt8 := [42, 28, 181, 0, 30, 177]
abbrev dktX2_put_3 : List UInt8 := dkwX2_put_3 ++ []
def dkwX2_put_2 : List UInt8 := [42, 28, 181, 0, 51, 167, 0, 24, 42, 28, 181, 0, 24, 167, 0, 16, 42, 28, 181, 0, 27, 167, 0, 8]
abbrev dktX2_put_2 : List UInt8 := dkwX2_put_2 ++ dktX2_put_3
def dkwX2_put_1 : List UInt8 := [170, 0, 0, 0, 0, 0, 51, 0, 0, 0, 0, 0, 0, 0, 2, 0, 0, 0, 27, 0, 0, 0, 35, 0, 0, 0, 43]
abbrev dktX2_put_1 : List UInt8 := dkwX2_put_1 ++ dktX2_put_2
def dkwX2_put_0 : List UInt8 := [27]
abbrev dktX2_put_0 : List UInt8 := dkwX2_put_0 ++ dktX2_put_1
theorem dksX2_put_0 : cX2_put.data.toList.drop 0 = dktX2_put_0 := by decide +kernel
theorem dksX2_put_1 : cX2_put.data.toList.drop 1 = dktX2_put_1 := dk_seg dksX2_put_0 1 rfl rfl
theorem dksX2_put_2 : cX2_put.data.toList.drop 28 = dktX2_put_2 := dk_seg dksX2_put_1 27 rfl rfl
theorem dksX2_put_3 : cX2_put.data.toList.drop 52 = dktX2_put_3 := dk_seg dksX2_put_2 24 rfl rfl
theorem dX2_put_0 : decode cX2_put 0 = .ok (.iload_n 1, 1) := dk_27 (dk_at dksX2_put_0 0 rfl rfl)
theorem dX2_put_1 : decode cX2_put 1 = .ok (.tableswitch 51 0 2 #[27, 35, 43], 27) := by decide +kernel
theorem dX2_put_28 : decode cX2_put 28 = .ok (.aload_n 0, 1) := dk_42 (dk_at dksX2_put_2 0 rfl rfl)
theorem dX2_put_29 : decode cX2_put 29 = .ok (.iload_n 2, 1) := dk_28 (dk_at dksX2_put_2 1 rfl rfl)
theorem dX2_put_30 : decode cX2_put 30 = .ok (.putfield 51, 3) := dk_181 0 51 (dk_at dksX2_put_2 2 rfl rfl)
theorem dX2_put_33 : decode cX2_put 33 = .ok (.goto 24, 3) := dk_167 0 24 (dk_at dksX2_put_2 5 rfl rfl)
theorem dX2_put_36 : decode cX2_put 36 = .ok (.aload_n 0, 1) := dk_42 (dk_at dksX2_put_2 8 rfl rfl)
theorem dX2_put_37 : decode cX2_put 37 = .ok (.iload_n 2, 1) := dk_28 (dk_at dksX2_put_2 9 rfl rfl)
theorem dX2_put_38 : decode cX2_put 38 = .ok (.putfield 24, 3) := dk_181 0 24 (dk_at dksX2_put_2 10 rfl rfl)
theorem dX2_put_41 : decode cX2_put 41 = .ok (.goto 16, 3) := dk_167 0 16 (dk_at dksX2_put_2 13 rfl rfl)
theorem dX2_put_44 : decode cX2_put 44 = .ok (.aload_n 0, 1) := dk_42 (dk_at dksX2_put_2 16 rfl rfl)
theorem dX2_put_45 : decode cX2_put 45 = .ok (.iload_n 2, 1) := dk_28 (dk_at dksX2_put_2 17 rfl rfl)
theorem dX2_put_46 : decode cX2_put 46 = .ok (.putfield 27, 3) := dk_181 0 27 (dk_at dksX2_put_2 18 rfl rfl)
theorem dX2_put_49 : decode cX2_put 49 = .ok (.goto 8, 3) := dk_167 0 8 (dk_at dksX2_put_2 21 rfl rfl)
theorem dX2_put_52 : decode cX2_put 52 = .ok (.aload_n 0, 1) := dk_42 (dk_at dksX2_put_3 0 rfl rfl)
theorem dX2_put_53 : decode cX2_put 53 = .ok (.iload_n 2, 1) := dk_28 (dk_at dksX2_put_3 1 rfl rfl)
theorem dX2_put_54 : decode cX2_put 54 = .ok (.putfield 30, 3) := dk_181 0 30 (dk_at dksX2_put_3 2 rfl rfl)
theorem dX2_put_57 : decode cX2_put 57 = .ok (.return_, 1) := dk_177 (dk_at dksX2_put_3 5 rfl rfl)
abbrev cX2_pace : ByteArray := prog_14_method_5_code
def yX2_pace : MethodName := ⟨RX2, "pace", "(I)I"⟩
def dkwX2_pace_1 : List UInt8 := [180, 0, 61, 184, 0, 64, 167, 0, 17, 42, 180, 0, 14, 27, 182, 0, 38, 192, 0, 42, 180, 0, 61, 172]
abbrev dktX2_pace_1 : List UInt8 := dkwX2_pace_1 ++ []
def dkwX2_pace_0 : List UInt8 := [42, 180, 0, 48, 16, 6, 184, 0, 57, 153, 0, 24, 7, 42, 180, 0, 14, 27, 182, 0, 38, 192, 0, 42]
abbrev dktX2_pace_0 : List UInt8 := dkwX2_pace_0 ++ dktX2_pace_1
theorem dksX2_pace_0 : cX2_pace.data.toList.drop 0 = dktX2_pace_0 := by decide +kernel
theorem dksX2_pace_1 : cX2_pace.data.toList.drop 24 = dktX2_pace_1 := dk_seg dksX2_pace_0 24 rfl rfl
theorem dX2_pace_0 : decode cX2_pace 0 = .ok (.aload_n 0, 1) := dk_42 (dk_at dksX2_pace_0 0 rfl rfl)
theorem dX2_pace_1 : decode cX2_pace 1 = .ok (.getfield 48, 3) := dk_180 0 48 (dk_at dksX2_pace_0 1 rfl rfl)
theorem dX2_pace_4 : decode cX2_pace 4 = .ok (.bipush 6, 2) := dk_16 6 (dk_at dksX2_pace_0 4 rfl rfl)
theorem dX2_pace_6 : decode cX2_pace 6 = .ok (.invokestatic 57, 3) := dk_184 0 57 (dk_at dksX2_pace_0 6 rfl rfl)
theorem dX2_pace_9 : decode cX2_pace 9 = .ok (.ifCond .eq 24, 3) := dk_153 0 24 (dk_at dksX2_pace_0 9 rfl rfl)
theorem dX2_pace_12 : decode cX2_pace 12 = .ok (.iconst 4, 1) := dk_7 (dk_at dksX2_pace_0 12 rfl rfl)
theorem dX2_pace_13 : decode cX2_pace 13 = .ok (.aload_n 0, 1) := dk_42 (dk_at dksX2_pace_0 13 rfl rfl)
theorem dX2_pace_14 : decode cX2_pace 14 = .ok (.getfield 14, 3) := dk_180 0 14 (dk_at dksX2_pace_0 14 rfl rfl)
theorem dX2_pace_17 : decode cX2_pace 17 = .ok (.iload_n 1, 1) := dk_27 (dk_at dksX2_pace_0 17 rfl rfl)
theorem dX2_pace_18 : decode cX2_pace 18 = .ok (.invokevirtual 38, 3) := dk_182 0 38 (dk_at dksX2_pace_0 18 rfl rfl)
theorem dX2_pace_21 : decode cX2_pace 21 = .ok (.checkcast 42, 3) := dk_192 0 42 (dk_at dksX2_pace_0 21 rfl rfl)
theorem dX2_pace_24 : decode cX2_pace 24 = .ok (.getfield 61, 3) := dk_180 0 61 (dk_at dksX2_pace_1 0 rfl rfl)
theorem dX2_pace_27 : decode cX2_pace 27 = .ok (.invokestatic 64, 3) := dk_184 0 64 (dk_at dksX2_pace_1 3 rfl rfl)
theorem dX2_pace_30 : decode cX2_pace 30 = .ok (.goto 17, 3) := dk_167 0 17 (dk_at dksX2_pace_1 6 rfl rfl)
theorem dX2_pace_33 : decode cX2_pace 33 = .ok (.aload_n 0, 1) := dk_42 (dk_at dksX2_pace_1 9 rfl rfl)
theorem dX2_pace_34 : decode cX2_pace 34 = .ok (.getfield 14, 3) := dk_180 0 14 (dk_at dksX2_pace_1 10 rfl rfl)
theorem dX2_pace_37 : decode cX2_pace 37 = .ok (.iload_n 1, 1) := dk_27 (dk_at dksX2_pace_1 13 rfl rfl)
theorem dX2_pace_38 : decode cX2_pace 38 = .ok (.invokevirtual 38, 3) := dk_182 0 38 (dk_at dksX2_pace_1 14 rfl rfl)
theorem dX2_pace_41 : decode cX2_pace 41 = .ok (.checkcast 42, 3) := dk_192 0 42 (dk_at dksX2_pace_1 17 rfl rfl)
theorem dX2_pace_44 : decode cX2_pace 44 = .ok (.getfield 61, 3) := dk_180 0 61 (dk_at dksX2_pace_1 20 rfl rfl)
theorem dX2_pace_47 : decode cX2_pace 47 = .ok (.ireturn, 1) := dk_172 (dk_at dksX2_pace_1 23 rfl rfl)
abbrev cX2_copy : ByteArray := prog_14_method_2_code
def yX2_copy : MethodName := ⟨RX2, "copy", "()LFootOut$Scene;"⟩
def dkwX2_copy_4 : List UInt8 := [43, 42, 180, 0, 54, 181, 0, 54, 43, 176]
abbrev dktX2_copy_4 : List UInt8 := dkwX2_copy_4 ++ []
def dkwX2_copy_3 : List UInt8 := [43, 42, 180, 0, 24, 181, 0, 24, 43, 42, 180, 0, 27, 181, 0, 27, 43, 42, 180, 0, 30, 181, 0, 30]
abbrev dktX2_copy_3 : List UInt8 := dkwX2_copy_3 ++ dktX2_copy_4
def dkwX2_copy_2 : List UInt8 := [43, 42, 180, 0, 20, 181, 0, 20, 43, 42, 180, 0, 48, 181, 0, 48, 43, 42, 180, 0, 51, 181, 0, 51]
abbrev dktX2_copy_2 : List UInt8 := dkwX2_copy_2 ++ dktX2_copy_3
def dkwX2_copy_1 : List UInt8 := [180, 0, 14, 42, 180, 0, 14, 28, 182, 0, 38, 192, 0, 42, 182, 0, 44, 87, 132, 2, 1, 167, 255, 223]
abbrev dktX2_copy_1 : List UInt8 := dkwX2_copy_1 ++ dktX2_copy_2
def dkwX2_copy_0 : List UInt8 := [187, 0, 15, 89, 183, 0, 33, 76, 3, 61, 28, 42, 180, 0, 14, 182, 0, 34, 162, 0, 28, 43]
abbrev dktX2_copy_0 : List UInt8 := dkwX2_copy_0 ++ dktX2_copy_1
theorem dksX2_copy_0 : cX2_copy.data.toList.drop 0 = dktX2_copy_0 := by decide +kernel
theorem dksX2_copy_1 : cX2_copy.data.toList.drop 22 = dktX2_copy_1 := dk_seg dksX2_copy_0 22 rfl rfl
theorem dksX2_copy_2 : cX2_copy.data.toList.drop 46 = dktX2_copy_2 := dk_seg dksX2_copy_1 24 rfl rfl
theorem dksX2_copy_3 : cX2_copy.data.toList.drop 70 = dktX2_copy_3 := dk_seg dksX2_copy_2 24 rfl rfl
theorem dksX2_copy_4 : cX2_copy.data.toList.drop 94 = dktX2_copy_4 := dk_seg dksX2_copy_3 24 rfl rfl
theorem dX2_copy_0 : decode cX2_copy 0 = .ok (.new 15, 3) := dk_187 0 15 (dk_at dksX2_copy_0 0 rfl rfl)
theorem dX2_copy_3 : decode cX2_copy 3 = .ok (.dup, 1) := dk_89 (dk_at dksX2_copy_0 3 rfl rfl)
theorem dX2_copy_4 : decode cX2_copy 4 = .ok (.invokespecial 33, 3) := dk_183 0 33 (dk_at dksX2_copy_0 4 rfl rfl)
theorem dX2_copy_7 : decode cX2_copy 7 = .ok (.astore_n 1, 1) := dk_76 (dk_at dksX2_copy_0 7 rfl rfl)
theorem dX2_copy_8 : decode cX2_copy 8 = .ok (.iconst 0, 1) := dk_3 (dk_at dksX2_copy_0 8 rfl rfl)
theorem dX2_copy_9 : decode cX2_copy 9 = .ok (.istore_n 2, 1) := dk_61 (dk_at dksX2_copy_0 9 rfl rfl)
theorem dX2_copy_10 : decode cX2_copy 10 = .ok (.iload_n 2, 1) := dk_28 (dk_at dksX2_copy_0 10 rfl rfl)
theorem dX2_copy_11 : decode cX2_copy 11 = .ok (.aload_n 0, 1) := dk_42 (dk_at dksX2_copy_0 11 rfl rfl)
theorem dX2_copy_12 : decode cX2_copy 12 = .ok (.getfield 14, 3) := dk_180 0 14 (dk_at dksX2_copy_0 12 rfl rfl)
theorem dX2_copy_15 : decode cX2_copy 15 = .ok (.invokevirtual 34, 3) := dk_182 0 34 (dk_at dksX2_copy_0 15 rfl rfl)
theorem dX2_copy_18 : decode cX2_copy 18 = .ok (.if_icmp .ge 28, 3) := dk_162 0 28 (dk_at dksX2_copy_0 18 rfl rfl)
theorem dX2_copy_21 : decode cX2_copy 21 = .ok (.aload_n 1, 1) := dk_43 (dk_at dksX2_copy_0 21 rfl rfl)
theorem dX2_copy_22 : decode cX2_copy 22 = .ok (.getfield 14, 3) := dk_180 0 14 (dk_at dksX2_copy_1 0 rfl rfl)
theorem dX2_copy_25 : decode cX2_copy 25 = .ok (.aload_n 0, 1) := dk_42 (dk_at dksX2_copy_1 3 rfl rfl)
theorem dX2_copy_26 : decode cX2_copy 26 = .ok (.getfield 14, 3) := dk_180 0 14 (dk_at dksX2_copy_1 4 rfl rfl)
theorem dX2_copy_29 : decode cX2_copy 29 = .ok (.iload_n 2, 1) := dk_28 (dk_at dksX2_copy_1 7 rfl rfl)
theorem dX2_copy_30 : decode cX2_copy 30 = .ok (.invokevirtual 38, 3) := dk_182 0 38 (dk_at dksX2_copy_1 8 rfl rfl)
theorem dX2_copy_33 : decode cX2_copy 33 = .ok (.checkcast 42, 3) := dk_192 0 42 (dk_at dksX2_copy_1 11 rfl rfl)
theorem dX2_copy_36 : decode cX2_copy 36 = .ok (.invokevirtual 44, 3) := dk_182 0 44 (dk_at dksX2_copy_1 14 rfl rfl)
theorem dX2_copy_39 : decode cX2_copy 39 = .ok (.pop, 1) := dk_87 (dk_at dksX2_copy_1 17 rfl rfl)
theorem dX2_copy_40 : decode cX2_copy 40 = .ok (.iinc 2 1, 3) := dk_132 2 1 (dk_at dksX2_copy_1 18 rfl rfl)
theorem dX2_copy_43 : decode cX2_copy 43 = .ok (.goto (-33), 3) := dk_167 255 223 (dk_at dksX2_copy_1 21 rfl rfl)
theorem dX2_copy_46 : decode cX2_copy 46 = .ok (.aload_n 1, 1) := dk_43 (dk_at dksX2_copy_2 0 rfl rfl)
theorem dX2_copy_47 : decode cX2_copy 47 = .ok (.aload_n 0, 1) := dk_42 (dk_at dksX2_copy_2 1 rfl rfl)
theorem dX2_copy_48 : decode cX2_copy 48 = .ok (.getfield 20, 3) := dk_180 0 20 (dk_at dksX2_copy_2 2 rfl rfl)
theorem dX2_copy_51 : decode cX2_copy 51 = .ok (.putfield 20, 3) := dk_181 0 20 (dk_at dksX2_copy_2 5 rfl rfl)
theorem dX2_copy_54 : decode cX2_copy 54 = .ok (.aload_n 1, 1) := dk_43 (dk_at dksX2_copy_2 8 rfl rfl)
theorem dX2_copy_55 : decode cX2_copy 55 = .ok (.aload_n 0, 1) := dk_42 (dk_at dksX2_copy_2 9 rfl rfl)
theorem dX2_copy_56 : decode cX2_copy 56 = .ok (.getfield 48, 3) := dk_180 0 48 (dk_at dksX2_copy_2 10 rfl rfl)
theorem dX2_copy_59 : decode cX2_copy 59 = .ok (.putfield 48, 3) := dk_181 0 48 (dk_at dksX2_copy_2 13 rfl rfl)
theorem dX2_copy_62 : decode cX2_copy 62 = .ok (.aload_n 1, 1) := dk_43 (dk_at dksX2_copy_2 16 rfl rfl)
theorem dX2_copy_63 : decode cX2_copy 63 = .ok (.aload_n 0, 1) := dk_42 (dk_at dksX2_copy_2 17 rfl rfl)
theorem dX2_copy_64 : decode cX2_copy 64 = .ok (.getfield 51, 3) := dk_180 0 51 (dk_at dksX2_copy_2 18 rfl rfl)
theorem dX2_copy_67 : decode cX2_copy 67 = .ok (.putfield 51, 3) := dk_181 0 51 (dk_at dksX2_copy_2 21 rfl rfl)
theorem dX2_copy_70 : decode cX2_copy 70 = .ok (.aload_n 1, 1) := dk_43 (dk_at dksX2_copy_3 0 rfl rfl)
theorem dX2_copy_71 : decode cX2_copy 71 = .ok (.aload_n 0, 1) := dk_42 (dk_at dksX2_copy_3 1 rfl rfl)
theorem dX2_copy_72 : decode cX2_copy 72 = .ok (.getfield 24, 3) := dk_180 0 24 (dk_at dksX2_copy_3 2 rfl rfl)
theorem dX2_copy_75 : decode cX2_copy 75 = .ok (.putfield 24, 3) := dk_181 0 24 (dk_at dksX2_copy_3 5 rfl rfl)
theorem dX2_copy_78 : decode cX2_copy 78 = .ok (.aload_n 1, 1) := dk_43 (dk_at dksX2_copy_3 8 rfl rfl)
theorem dX2_copy_79 : decode cX2_copy 79 = .ok (.aload_n 0, 1) := dk_42 (dk_at dksX2_copy_3 9 rfl rfl)
theorem dX2_copy_80 : decode cX2_copy 80 = .ok (.getfield 27, 3) := dk_180 0 27 (dk_at dksX2_copy_3 10 rfl rfl)
theorem dX2_copy_83 : decode cX2_copy 83 = .ok (.putfield 27, 3) := dk_181 0 27 (dk_at dksX2_copy_3 13 rfl rfl)
theorem dX2_copy_86 : decode cX2_copy 86 = .ok (.aload_n 1, 1) := dk_43 (dk_at dksX2_copy_3 16 rfl rfl)
theorem dX2_copy_87 : decode cX2_copy 87 = .ok (.aload_n 0, 1) := dk_42 (dk_at dksX2_copy_3 17 rfl rfl)
theorem dX2_copy_88 : decode cX2_copy 88 = .ok (.getfield 30, 3) := dk_180 0 30 (dk_at dksX2_copy_3 18 rfl rfl)
theorem dX2_copy_91 : decode cX2_copy 91 = .ok (.putfield 30, 3) := dk_181 0 30 (dk_at dksX2_copy_3 21 rfl rfl)
theorem dX2_copy_94 : decode cX2_copy 94 = .ok (.aload_n 1, 1) := dk_43 (dk_at dksX2_copy_4 0 rfl rfl)
theorem dX2_copy_95 : decode cX2_copy 95 = .ok (.aload_n 0, 1) := dk_42 (dk_at dksX2_copy_4 1 rfl rfl)
theorem dX2_copy_96 : decode cX2_copy 96 = .ok (.getfield 54, 3) := dk_180 0 54 (dk_at dksX2_copy_4 2 rfl rfl)
theorem dX2_copy_99 : decode cX2_copy 99 = .ok (.putfield 54, 3) := dk_181 0 54 (dk_at dksX2_copy_4 5 rfl rfl)
theorem dX2_copy_102 : decode cX2_copy 102 = .ok (.aload_n 1, 1) := dk_43 (dk_at dksX2_copy_4 8 rfl rfl)
theorem dX2_copy_103 : decode cX2_copy 103 = .ok (.areturn, 1) := dk_176 (dk_at dksX2_copy_4 9 rfl rfl)
theorem q126 : (Jvm.Cond.initialized "FootOut$Scene") ∈ lw_all := lw_g (lw_at lw_m1 3 rfl) rfl
theorem q179 : (Jvm.Cond.instantiable "FootOut$Scene" (8 : Nat)) ∈ lw_all := lw_g (lw_at lw_m1 56 rfl) rfl
theorem q181 : (Jvm.Cond.instanceMethod ({ cls := "FootOut$Scene", name := "<init>", desc := "()V" } : Jvm.MethodName)) ∈ lw_all := lw_g (lw_at lw_m1 58 rfl) rfl
theorem q182 : (Jvm.Cond.code ({ cls := "FootOut$Scene", name := "<init>", desc := "()V" } : Jvm.MethodName) prog_14_method_1_code (1 : Nat) (Option.none : Option Jvm.ClassFile.FieldType)) ∈ lw_all := lw_g (lw_at lw_m1 59 rfl) rfl
theorem q183 : (Jvm.Cond.methodLink "FootOut$Scene" (3 : Nat) ({ cls := "java/lang/Object", name := "<init>", desc := "()V" } : Jvm.MethodName)) ∈ lw_all := lw_g (lw_at lw_m1 60 rfl) rfl
theorem q184 : (Jvm.Cond.classLink "FootOut$Scene" (9 : Nat) "java/util/ArrayList") ∈ lw_all := lw_g (lw_at lw_m1 61 rfl) rfl
theorem q186 : (Jvm.Cond.methodLink "FootOut$Scene" (11 : Nat) ({ cls := "java/util/ArrayList", name := "<init>", desc := "(I)V" } : Jvm.MethodName)) ∈ lw_all := lw_g (lw_at lw_m1 63 rfl) rfl
theorem q212 : (Jvm.Cond.fieldLink "FootOut$Scene" (14 : Nat) "FootOut$Scene" "cars" "Ljava/util/ArrayList;") ∈ lw_all := lw_g (lw_at lw_m1 89 rfl) rfl
theorem q216 : (Jvm.Cond.fieldLink "FootOut$Scene" (20 : Nat) "FootOut$Scene" "lanes" "I") ∈ lw_all := lw_g (lw_at lw_m1 93 rfl) rfl
theorem q221 : (Jvm.Cond.fieldLink "FootOut$Scene" (48 : Nat) "FootOut$Scene" "traits" "I") ∈ lw_all := lw_g (lw_at lw_m1 98 rfl) rfl
theorem q225 : (Jvm.Cond.fieldLink "FootOut$Scene" (51 : Nat) "FootOut$Scene" "line" "I") ∈ lw_all := lw_g (lw_at lw_m1 102 rfl) rfl
theorem q229 : (Jvm.Cond.fieldLink "FootOut$Scene" (24 : Nat) "FootOut$Scene" "gap" "I") ∈ lw_all := lw_g (lw_at lw_m1 106 rfl) rfl
theorem q232 : (Jvm.Cond.fieldLink "FootOut$Scene" (27 : Nat) "FootOut$Scene" "waits" "I") ∈ lw_all := lw_g (lw_at lw_m1 109 rfl) rfl
theorem q235 : (Jvm.Cond.fieldLink "FootOut$Scene" (30 : Nat) "FootOut$Scene" "sight" "I") ∈ lw_all := lw_g (lw_at lw_m1 112 rfl) rfl
theorem q238 : (Jvm.Cond.fieldLink "FootOut$Scene" (54 : Nat) "FootOut$Scene" "lines" "I") ∈ lw_all := lw_g (lw_at lw_m1 115 rfl) rfl
theorem q241 : (Jvm.Cond.laysFinal "FootOut$Scene" "FootOut$Scene" "cars" "Ljava/util/ArrayList;") ∈ lw_all := lw_g (lw_at lw_m1 118 rfl) rfl
theorem q242 : (Jvm.Cond.soleField "FootOut$Scene" "cars") ∈ lw_all := lw_g (lw_at lw_m1 119 rfl) rfl
theorem q243 : (Jvm.Cond.lays "FootOut$Scene" "FootOut$Scene" "lanes" "I") ∈ lw_all := lw_g (lw_at lw_m1 120 rfl) rfl
theorem q244 : (Jvm.Cond.soleField "FootOut$Scene" "lanes") ∈ lw_all := lw_g (lw_at lw_m1 121 rfl) rfl
theorem q245 : (Jvm.Cond.lays "FootOut$Scene" "FootOut$Scene" "traits" "I") ∈ lw_all := lw_g (lw_at lw_m1 122 rfl) rfl
theorem q246 : (Jvm.Cond.soleField "FootOut$Scene" "traits") ∈ lw_all := lw_g (lw_at lw_m1 123 rfl) rfl
theorem q247 : (Jvm.Cond.lays "FootOut$Scene" "FootOut$Scene" "line" "I") ∈ lw_all := lw_g (lw_at lw_m1 124 rfl) rfl
theorem q248 : (Jvm.Cond.soleField "FootOut$Scene" "line") ∈ lw_all := lw_g (lw_at lw_m1 125 rfl) rfl
theorem q249 : (Jvm.Cond.lays "FootOut$Scene" "FootOut$Scene" "gap" "I") ∈ lw_all := lw_g (lw_at lw_m1 126 rfl) rfl
theorem q250 : (Jvm.Cond.soleField "FootOut$Scene" "gap") ∈ lw_all := lw_g (lw_at lw_m1 127 rfl) rfl
theorem q251 : (Jvm.Cond.lays "FootOut$Scene" "FootOut$Scene" "waits" "I") ∈ lw_all := lw_g (lw_at lw_m1 128 rfl) rfl
theorem q252 : (Jvm.Cond.soleField "FootOut$Scene" "waits") ∈ lw_all := lw_g (lw_at lw_m1 129 rfl) rfl
theorem q253 : (Jvm.Cond.lays "FootOut$Scene" "FootOut$Scene" "sight" "I") ∈ lw_all := lw_g (lw_at lw_m1 130 rfl) rfl
theorem q254 : (Jvm.Cond.soleField "FootOut$Scene" "sight") ∈ lw_all := lw_g (lw_at lw_m1 131 rfl) rfl
theorem q255 : (Jvm.Cond.lays "FootOut$Scene" "FootOut$Scene" "lines" "I") ∈ lw_all := lw_g (lw_at lw_m1 132 rfl) rfl
theorem q256 : (Jvm.Cond.soleField "FootOut$Scene" "lines") ∈ lw_all := lw_g (lw_at lw_m1 133 rfl) rfl
theorem q257 : (Jvm.Cond.superclass "FootOut$Scene" "java/lang/Object") ∈ lw_all := lw_g (lw_at lw_m1 134 rfl) rfl
theorem q628 : (Jvm.Cond.fieldLinkNest "FootOut$Scene" (61 : Nat) "FootOut$Car" "pace" "I" "FootOut") ∈ lw_tbl := lw_at lw_m3 25 rfl
theorem q689 : (Jvm.Cond.selects "FootOut$Scene" ({ cls := "java/lang/Object", name := "getClass", desc := "()Ljava/lang/Class;" } : Jvm.MethodName) ({ cls := "java/lang/Object", name := "getClass", desc := "()Ljava/lang/Class;" } : Jvm.MethodName)) ∈ lw_all := lw_g (lw_at lw_m3 86 rfl) rfl
theorem q921 : (Jvm.Cond.instanceMethod ({ cls := "FootOut$Scene", name := "get", desc := "(I)I" } : Jvm.MethodName)) ∈ lw_all := lw_g (lw_at lw_m4 78 rfl) rfl
theorem q922 : (Jvm.Cond.selects "FootOut$Scene" ({ cls := "FootOut$Scene", name := "get", desc := "(I)I" } : Jvm.MethodName) ({ cls := "FootOut$Scene", name := "get", desc := "(I)I" } : Jvm.MethodName)) ∈ lw_all := lw_g (lw_at lw_m4 79 rfl) rfl
theorem q923 : (Jvm.Cond.code ({ cls := "FootOut$Scene", name := "get", desc := "(I)I" } : Jvm.MethodName) prog_14_method_3_code (2 : Nat) (Option.some Jvm.ClassFile.FieldType.int)) ∈ lw_all := lw_g (lw_at lw_m4 80 rfl) rfl
theorem q925 : (Jvm.Cond.instanceMethod ({ cls := "FootOut$Scene", name := "put", desc := "(II)V" } : Jvm.MethodName)) ∈ lw_all := lw_g (lw_at lw_m4 82 rfl) rfl
theorem q926 : (Jvm.Cond.selects "FootOut$Scene" ({ cls := "FootOut$Scene", name := "put", desc := "(II)V" } : Jvm.MethodName) ({ cls := "FootOut$Scene", name := "put", desc := "(II)V" } : Jvm.MethodName)) ∈ lw_all := lw_g (lw_at lw_m4 83 rfl) rfl
theorem q927 : (Jvm.Cond.code ({ cls := "FootOut$Scene", name := "put", desc := "(II)V" } : Jvm.MethodName) prog_14_method_4_code (3 : Nat) (Option.none : Option Jvm.ClassFile.FieldType)) ∈ lw_all := lw_g (lw_at lw_m4 84 rfl) rfl
theorem q948 : (Jvm.Cond.instanceMethod ({ cls := "FootOut$Scene", name := "pace", desc := "(I)I" } : Jvm.MethodName)) ∈ lw_all := lw_g (lw_at lw_m4 105 rfl) rfl
theorem q949 : (Jvm.Cond.selects "FootOut$Scene" ({ cls := "FootOut$Scene", name := "pace", desc := "(I)I" } : Jvm.MethodName) ({ cls := "FootOut$Scene", name := "pace", desc := "(I)I" } : Jvm.MethodName)) ∈ lw_all := lw_g (lw_at lw_m4 106 rfl) rfl
theorem q950 : (Jvm.Cond.code ({ cls := "FootOut$Scene", name := "pace", desc := "(I)I" } : Jvm.MethodName) prog_14_method_5_code (2 : Nat) (Option.some Jvm.ClassFile.FieldType.int)) ∈ lw_all := lw_g (lw_at lw_m4 107 rfl) rfl
theorem q951 : (Jvm.Cond.methodLinkNest "FootOut$Scene" (57 : Nat) ({ cls := "FootOut", name := "has", desc := "(II)Z" } : Jvm.MethodName) "FootOut") ∈ lw_tbl := lw_at lw_m4 108 rfl
theorem q954 : (Jvm.Cond.methodLink "FootOut$Scene" (38 : Nat) ({ cls := "java/util/ArrayList", name := "get", desc := "(I)Ljava/lang/Object;" } : Jvm.MethodName)) ∈ lw_all := lw_g (lw_at lw_m4 111 rfl) rfl
theorem q955 : (Jvm.Cond.classLink "FootOut$Scene" (42 : Nat) "FootOut$Car") ∈ lw_all := lw_g (lw_at lw_m4 112 rfl) rfl
theorem q956 : (Jvm.Cond.methodLink "FootOut$Scene" (64 : Nat) ({ cls := "java/lang/Math", name := "min", desc := "(II)I" } : Jvm.MethodName)) ∈ lw_all := lw_g (lw_at lw_m4 113 rfl) rfl
theorem q1167 : (Jvm.Cond.instanceMethod ({ cls := "FootOut$Scene", name := "copy", desc := "()LFootOut$Scene;" } : Jvm.MethodName)) ∈ lw_all := lw_g (lw_at lw_m5 84 rfl) rfl
theorem q1168 : (Jvm.Cond.selects "FootOut$Scene" ({ cls := "FootOut$Scene", name := "copy", desc := "()LFootOut$Scene;" } : Jvm.MethodName) ({ cls := "FootOut$Scene", name := "copy", desc := "()LFootOut$Scene;" } : Jvm.MethodName)) ∈ lw_all := lw_g (lw_at lw_m5 85 rfl) rfl
theorem q1169 : (Jvm.Cond.code ({ cls := "FootOut$Scene", name := "copy", desc := "()LFootOut$Scene;" } : Jvm.MethodName) prog_14_method_2_code (3 : Nat) (Option.some (Jvm.ClassFile.FieldType.object "FootOut$Scene"))) ∈ lw_all := lw_g (lw_at lw_m5 86 rfl) rfl
theorem q1170 : (Jvm.Cond.classLink "FootOut$Scene" (15 : Nat) "FootOut$Scene") ∈ lw_all := lw_g (lw_at lw_m5 87 rfl) rfl
theorem q1171 : (Jvm.Cond.methodLink "FootOut$Scene" (33 : Nat) ({ cls := "FootOut$Scene", name := "<init>", desc := "()V" } : Jvm.MethodName)) ∈ lw_all := lw_g (lw_at lw_m5 88 rfl) rfl
theorem q1172 : (Jvm.Cond.methodLink "FootOut$Scene" (34 : Nat) ({ cls := "java/util/ArrayList", name := "size", desc := "()I" } : Jvm.MethodName)) ∈ lw_all := lw_g (lw_at lw_m5 89 rfl) rfl
theorem q1173 : (Jvm.Cond.methodLink "FootOut$Scene" (44 : Nat) ({ cls := "java/util/ArrayList", name := "add", desc := "(Ljava/lang/Object;)Z" } : Jvm.MethodName)) ∈ lw_all := lw_g (lw_at lw_m5 90 rfl) rfl
theorem q2210 : (Jvm.Cond.castable "FootOut$Scene" "java/lang/Object") ∈ lw_tbl := lw_at lw_m9 167 rfl
theorem in_X2 : ∀ w ∈ wsX20, w ∈ lw_all := lw_in wsX20 [241, 243, 245, 247, 249, 251, 253, 255] (by decide +kernel) (by decide +kernel)

/-! FootOut$Walk -/
set_option maxRecDepth 100000
def RX3 : String := "FootOut$Walk"
def TX3 : u_T := fun k => match k with
  | 0 => ("FootOut$Walk", "dist", "[I", true)
  | 1 => ("FootOut$Walk", "pace", "[I", true)
  | 2 => ("FootOut$Walk", "decided", "[I", true)
  | 3 => ("FootOut$Walk", "isHeld", "[Z", true)
  | 4 => ("FootOut$Walk", "isMoved", "[Z", true)
  | 5 => ("FootOut$Walk", "scene", "LFootOut$Scene;", false)
  | 6 => ("FootOut$Walk", "past", "I", false)
  | 7 => ("FootOut$Walk", "inFor", "I", false)
  | 8 => ("FootOut$Walk", "stood", "I", false)
  | 9 => ("FootOut$Walk", "ticks", "I", false)
  | 10 => ("FootOut$Walk", "end", "I", false)
  | 11 => ("FootOut$Walk", "by", "I", false)
  | _ => ("FootOut$Walk", "harm", "I", false)
def tyX3 : Nat → FieldType := fun k => match k with
  | 0 => .array .int
  | 1 => .array .int
  | 2 => .array .int
  | 3 => .array .boolean
  | 4 => .array .boolean
  | 5 => .object "FootOut$Scene"
  | 6 => .int
  | 7 => .int
  | 8 => .int
  | 9 => .int
  | 10 => .int
  | 11 => .int
  | _ => .int
abbrev wsX30 : List Cond := u_ws RX3 TX3 13
set_option maxRecDepth 100000 in
theorem nmX3 : ∀ a, a < 13 → ∀ b, b < 13 → a ≠ b → (TX3 a).2.1 ≠ (TX3 b).2.1 := by decide +kernel
set_option maxRecDepth 100000 in
theorem tyX3_ok : ∀ k, k < 13 → parseFieldDescriptor (TX3 k).2.2.1 = some (tyX3 k) := by decide +kernel
abbrev cX3_init : ByteArray := prog_19_method_1_code
def yX3_init : MethodName := ⟨RX3, "<init>", "()V"⟩
def dkwX3_init_1 : List UInt8 := [188, 10, 181, 0, 18, 42, 16, 8, 188, 4, 181, 0, 21, 42, 16, 8, 188, 4, 181, 0, 25, 177]
abbrev dktX3_init_1 : List UInt8 := dkwX3_init_1 ++ []
def dkwX3_init_0 : List UInt8 := [42, 183, 0, 3, 42, 16, 8, 188, 10, 181, 0, 9, 42, 16, 8, 188, 10, 181, 0, 15, 42, 16, 8]
abbrev dktX3_init_0 : List UInt8 := dkwX3_init_0 ++ dktX3_init_1
theorem dksX3_init_0 : cX3_init.data.toList.drop 0 = dktX3_init_0 := by decide +kernel
theorem dksX3_init_1 : cX3_init.data.toList.drop 23 = dktX3_init_1 := dk_seg dksX3_init_0 23 rfl rfl
theorem dX3_init_0 : decode cX3_init 0 = .ok (.aload_n 0, 1) := dk_42 (dk_at dksX3_init_0 0 rfl rfl)
theorem dX3_init_1 : decode cX3_init 1 = .ok (.invokespecial 3, 3) := dk_183 0 3 (dk_at dksX3_init_0 1 rfl rfl)
theorem dX3_init_4 : decode cX3_init 4 = .ok (.aload_n 0, 1) := dk_42 (dk_at dksX3_init_0 4 rfl rfl)
theorem dX3_init_5 : decode cX3_init 5 = .ok (.bipush 8, 2) := dk_16 8 (dk_at dksX3_init_0 5 rfl rfl)
theorem dX3_init_7 : decode cX3_init 7 = .ok (.newarray .int, 2) := dk_188_10 (dk_at dksX3_init_0 7 rfl rfl)
theorem dX3_init_9 : decode cX3_init 9 = .ok (.putfield 9, 3) := dk_181 0 9 (dk_at dksX3_init_0 9 rfl rfl)
theorem dX3_init_12 : decode cX3_init 12 = .ok (.aload_n 0, 1) := dk_42 (dk_at dksX3_init_0 12 rfl rfl)
theorem dX3_init_13 : decode cX3_init 13 = .ok (.bipush 8, 2) := dk_16 8 (dk_at dksX3_init_0 13 rfl rfl)
theorem dX3_init_15 : decode cX3_init 15 = .ok (.newarray .int, 2) := dk_188_10 (dk_at dksX3_init_0 15 rfl rfl)
theorem dX3_init_17 : decode cX3_init 17 = .ok (.putfield 15, 3) := dk_181 0 15 (dk_at dksX3_init_0 17 rfl rfl)
theorem dX3_init_20 : decode cX3_init 20 = .ok (.aload_n 0, 1) := dk_42 (dk_at dksX3_init_0 20 rfl rfl)
theorem dX3_init_21 : decode cX3_init 21 = .ok (.bipush 8, 2) := dk_16 8 (dk_at dksX3_init_0 21 rfl rfl)
theorem dX3_init_23 : decode cX3_init 23 = .ok (.newarray .int, 2) := dk_188_10 (dk_at dksX3_init_1 0 rfl rfl)
theorem dX3_init_25 : decode cX3_init 25 = .ok (.putfield 18, 3) := dk_181 0 18 (dk_at dksX3_init_1 2 rfl rfl)
theorem dX3_init_28 : decode cX3_init 28 = .ok (.aload_n 0, 1) := dk_42 (dk_at dksX3_init_1 5 rfl rfl)
theorem dX3_init_29 : decode cX3_init 29 = .ok (.bipush 8, 2) := dk_16 8 (dk_at dksX3_init_1 6 rfl rfl)
theorem dX3_init_31 : decode cX3_init 31 = .ok (.newarray .boolean, 2) := dk_188_4 (dk_at dksX3_init_1 8 rfl rfl)
theorem dX3_init_33 : decode cX3_init 33 = .ok (.putfield 21, 3) := dk_181 0 21 (dk_at dksX3_init_1 10 rfl rfl)
theorem dX3_init_36 : decode cX3_init 36 = .ok (.aload_n 0, 1) := dk_42 (dk_at dksX3_init_1 13 rfl rfl)
theorem dX3_init_37 : decode cX3_init 37 = .ok (.bipush 8, 2) := dk_16 8 (dk_at dksX3_init_1 14 rfl rfl)
theorem dX3_init_39 : decode cX3_init 39 = .ok (.newarray .boolean, 2) := dk_188_4 (dk_at dksX3_init_1 16 rfl rfl)
theorem dX3_init_41 : decode cX3_init 41 = .ok (.putfield 25, 3) := dk_181 0 25 (dk_at dksX3_init_1 18 rfl rfl)
theorem dX3_init_44 : decode cX3_init 44 = .ok (.return_, 1) := dk_177 (dk_at dksX3_init_1 21 rfl rfl)
abbrev cX3_begins : ByteArray := prog_19_method_2_code
def yX3_begins : MethodName := ⟨RX3, "begins", "(LFootOut$Scene;)LFootOut$Walk;"⟩
def dkwX3_begins_4 : List UInt8 := [167, 255, 206, 42, 176]
abbrev dktX3_begins_4 : List UInt8 := dkwX3_begins_4 ++ []
def dkwX3_begins_3 : List UInt8 := [28, 43, 28, 182, 0, 66, 79, 42, 180, 0, 18, 28, 3, 79, 42, 180, 0, 21, 28, 3, 84, 132, 2, 1]
abbrev dktX3_begins_3 : List UInt8 := dkwX3_begins_3 ++ dktX3_begins_4
def dkwX3_begins_2 : List UInt8 := [182, 0, 54, 162, 0, 48, 42, 180, 0, 9, 28, 42, 28, 182, 0, 58, 180, 0, 62, 79, 42, 180, 0, 15]
abbrev dktX3_begins_2 : List UInt8 := dkwX3_begins_2 ++ dktX3_begins_3
def dkwX3_begins_1 : List UInt8 := [181, 0, 42, 42, 3, 181, 0, 45, 42, 2, 181, 0, 48, 42, 3, 181, 0, 51, 3, 61, 28, 42]
abbrev dktX3_begins_1 : List UInt8 := dkwX3_begins_1 ++ dktX3_begins_2
def dkwX3_begins_0 : List UInt8 := [42, 43, 181, 0, 28, 42, 3, 181, 0, 32, 42, 3, 181, 0, 36, 42, 3, 181, 0, 39, 42, 3]
abbrev dktX3_begins_0 : List UInt8 := dkwX3_begins_0 ++ dktX3_begins_1
theorem dksX3_begins_0 : cX3_begins.data.toList.drop 0 = dktX3_begins_0 := by decide +kernel
theorem dksX3_begins_1 : cX3_begins.data.toList.drop 22 = dktX3_begins_1 := dk_seg dksX3_begins_0 22 rfl rfl
theorem dksX3_begins_2 : cX3_begins.data.toList.drop 44 = dktX3_begins_2 := dk_seg dksX3_begins_1 22 rfl rfl
theorem dksX3_begins_3 : cX3_begins.data.toList.drop 68 = dktX3_begins_3 := dk_seg dksX3_begins_2 24 rfl rfl
theorem dksX3_begins_4 : cX3_begins.data.toList.drop 92 = dktX3_begins_4 := dk_seg dksX3_begins_3 24 rfl rfl
theorem dX3_begins_0 : decode cX3_begins 0 = .ok (.aload_n 0, 1) := dk_42 (dk_at dksX3_begins_0 0 rfl rfl)
theorem dX3_begins_1 : decode cX3_begins 1 = .ok (.aload_n 1, 1) := dk_43 (dk_at dksX3_begins_0 1 rfl rfl)
theorem dX3_begins_2 : decode cX3_begins 2 = .ok (.putfield 28, 3) := dk_181 0 28 (dk_at dksX3_begins_0 2 rfl rfl)
theorem dX3_begins_5 : decode cX3_begins 5 = .ok (.aload_n 0, 1) := dk_42 (dk_at dksX3_begins_0 5 rfl rfl)
theorem dX3_begins_6 : decode cX3_begins 6 = .ok (.iconst 0, 1) := dk_3 (dk_at dksX3_begins_0 6 rfl rfl)
theorem dX3_begins_7 : decode cX3_begins 7 = .ok (.putfield 32, 3) := dk_181 0 32 (dk_at dksX3_begins_0 7 rfl rfl)
theorem dX3_begins_10 : decode cX3_begins 10 = .ok (.aload_n 0, 1) := dk_42 (dk_at dksX3_begins_0 10 rfl rfl)
theorem dX3_begins_11 : decode cX3_begins 11 = .ok (.iconst 0, 1) := dk_3 (dk_at dksX3_begins_0 11 rfl rfl)
theorem dX3_begins_12 : decode cX3_begins 12 = .ok (.putfield 36, 3) := dk_181 0 36 (dk_at dksX3_begins_0 12 rfl rfl)
theorem dX3_begins_15 : decode cX3_begins 15 = .ok (.aload_n 0, 1) := dk_42 (dk_at dksX3_begins_0 15 rfl rfl)
theorem dX3_begins_16 : decode cX3_begins 16 = .ok (.iconst 0, 1) := dk_3 (dk_at dksX3_begins_0 16 rfl rfl)
theorem dX3_begins_17 : decode cX3_begins 17 = .ok (.putfield 39, 3) := dk_181 0 39 (dk_at dksX3_begins_0 17 rfl rfl)
theorem dX3_begins_20 : decode cX3_begins 20 = .ok (.aload_n 0, 1) := dk_42 (dk_at dksX3_begins_0 20 rfl rfl)
theorem dX3_begins_21 : decode cX3_begins 21 = .ok (.iconst 0, 1) := dk_3 (dk_at dksX3_begins_0 21 rfl rfl)
theorem dX3_begins_22 : decode cX3_begins 22 = .ok (.putfield 42, 3) := dk_181 0 42 (dk_at dksX3_begins_1 0 rfl rfl)
theorem dX3_begins_25 : decode cX3_begins 25 = .ok (.aload_n 0, 1) := dk_42 (dk_at dksX3_begins_1 3 rfl rfl)
theorem dX3_begins_26 : decode cX3_begins 26 = .ok (.iconst 0, 1) := dk_3 (dk_at dksX3_begins_1 4 rfl rfl)
theorem dX3_begins_27 : decode cX3_begins 27 = .ok (.putfield 45, 3) := dk_181 0 45 (dk_at dksX3_begins_1 5 rfl rfl)
theorem dX3_begins_30 : decode cX3_begins 30 = .ok (.aload_n 0, 1) := dk_42 (dk_at dksX3_begins_1 8 rfl rfl)
theorem dX3_begins_31 : decode cX3_begins 31 = .ok (.iconst (-1), 1) := dk_2 (dk_at dksX3_begins_1 9 rfl rfl)
theorem dX3_begins_32 : decode cX3_begins 32 = .ok (.putfield 48, 3) := dk_181 0 48 (dk_at dksX3_begins_1 10 rfl rfl)
theorem dX3_begins_35 : decode cX3_begins 35 = .ok (.aload_n 0, 1) := dk_42 (dk_at dksX3_begins_1 13 rfl rfl)
theorem dX3_begins_36 : decode cX3_begins 36 = .ok (.iconst 0, 1) := dk_3 (dk_at dksX3_begins_1 14 rfl rfl)
theorem dX3_begins_37 : decode cX3_begins 37 = .ok (.putfield 51, 3) := dk_181 0 51 (dk_at dksX3_begins_1 15 rfl rfl)
theorem dX3_begins_40 : decode cX3_begins 40 = .ok (.iconst 0, 1) := dk_3 (dk_at dksX3_begins_1 18 rfl rfl)
theorem dX3_begins_41 : decode cX3_begins 41 = .ok (.istore_n 2, 1) := dk_61 (dk_at dksX3_begins_1 19 rfl rfl)
theorem dX3_begins_42 : decode cX3_begins 42 = .ok (.iload_n 2, 1) := dk_28 (dk_at dksX3_begins_1 20 rfl rfl)
theorem dX3_begins_43 : decode cX3_begins 43 = .ok (.aload_n 0, 1) := dk_42 (dk_at dksX3_begins_1 21 rfl rfl)
theorem dX3_begins_44 : decode cX3_begins 44 = .ok (.invokevirtual 54, 3) := dk_182 0 54 (dk_at dksX3_begins_2 0 rfl rfl)
theorem dX3_begins_47 : decode cX3_begins 47 = .ok (.if_icmp .ge 48, 3) := dk_162 0 48 (dk_at dksX3_begins_2 3 rfl rfl)
theorem dX3_begins_50 : decode cX3_begins 50 = .ok (.aload_n 0, 1) := dk_42 (dk_at dksX3_begins_2 6 rfl rfl)
theorem dX3_begins_51 : decode cX3_begins 51 = .ok (.getfield 9, 3) := dk_180 0 9 (dk_at dksX3_begins_2 7 rfl rfl)
theorem dX3_begins_54 : decode cX3_begins 54 = .ok (.iload_n 2, 1) := dk_28 (dk_at dksX3_begins_2 10 rfl rfl)
theorem dX3_begins_55 : decode cX3_begins 55 = .ok (.aload_n 0, 1) := dk_42 (dk_at dksX3_begins_2 11 rfl rfl)
theorem dX3_begins_56 : decode cX3_begins 56 = .ok (.iload_n 2, 1) := dk_28 (dk_at dksX3_begins_2 12 rfl rfl)
theorem dX3_begins_57 : decode cX3_begins 57 = .ok (.invokevirtual 58, 3) := dk_182 0 58 (dk_at dksX3_begins_2 13 rfl rfl)
theorem dX3_begins_60 : decode cX3_begins 60 = .ok (.getfield 62, 3) := dk_180 0 62 (dk_at dksX3_begins_2 16 rfl rfl)
theorem dX3_begins_63 : decode cX3_begins 63 = .ok (.iastore, 1) := dk_79 (dk_at dksX3_begins_2 19 rfl rfl)
theorem dX3_begins_64 : decode cX3_begins 64 = .ok (.aload_n 0, 1) := dk_42 (dk_at dksX3_begins_2 20 rfl rfl)
theorem dX3_begins_65 : decode cX3_begins 65 = .ok (.getfield 15, 3) := dk_180 0 15 (dk_at dksX3_begins_2 21 rfl rfl)
theorem dX3_begins_68 : decode cX3_begins 68 = .ok (.iload_n 2, 1) := dk_28 (dk_at dksX3_begins_3 0 rfl rfl)
theorem dX3_begins_69 : decode cX3_begins 69 = .ok (.aload_n 1, 1) := dk_43 (dk_at dksX3_begins_3 1 rfl rfl)
theorem dX3_begins_70 : decode cX3_begins 70 = .ok (.iload_n 2, 1) := dk_28 (dk_at dksX3_begins_3 2 rfl rfl)
theorem dX3_begins_71 : decode cX3_begins 71 = .ok (.invokevirtual 66, 3) := dk_182 0 66 (dk_at dksX3_begins_3 3 rfl rfl)
theorem dX3_begins_74 : decode cX3_begins 74 = .ok (.iastore, 1) := dk_79 (dk_at dksX3_begins_3 6 rfl rfl)
theorem dX3_begins_75 : decode cX3_begins 75 = .ok (.aload_n 0, 1) := dk_42 (dk_at dksX3_begins_3 7 rfl rfl)
theorem dX3_begins_76 : decode cX3_begins 76 = .ok (.getfield 18, 3) := dk_180 0 18 (dk_at dksX3_begins_3 8 rfl rfl)
theorem dX3_begins_79 : decode cX3_begins 79 = .ok (.iload_n 2, 1) := dk_28 (dk_at dksX3_begins_3 11 rfl rfl)
theorem dX3_begins_80 : decode cX3_begins 80 = .ok (.iconst 0, 1) := dk_3 (dk_at dksX3_begins_3 12 rfl rfl)
theorem dX3_begins_81 : decode cX3_begins 81 = .ok (.iastore, 1) := dk_79 (dk_at dksX3_begins_3 13 rfl rfl)
theorem dX3_begins_82 : decode cX3_begins 82 = .ok (.aload_n 0, 1) := dk_42 (dk_at dksX3_begins_3 14 rfl rfl)
theorem dX3_begins_83 : decode cX3_begins 83 = .ok (.getfield 21, 3) := dk_180 0 21 (dk_at dksX3_begins_3 15 rfl rfl)
theorem dX3_begins_86 : decode cX3_begins 86 = .ok (.iload_n 2, 1) := dk_28 (dk_at dksX3_begins_3 18 rfl rfl)
theorem dX3_begins_87 : decode cX3_begins 87 = .ok (.iconst 0, 1) := dk_3 (dk_at dksX3_begins_3 19 rfl rfl)
theorem dX3_begins_88 : decode cX3_begins 88 = .ok (.bastore, 1) := dk_84 (dk_at dksX3_begins_3 20 rfl rfl)
theorem dX3_begins_89 : decode cX3_begins 89 = .ok (.iinc 2 1, 3) := dk_132 2 1 (dk_at dksX3_begins_3 21 rfl rfl)
theorem dX3_begins_92 : decode cX3_begins 92 = .ok (.goto (-50), 3) := dk_167 255 206 (dk_at dksX3_begins_4 0 rfl rfl)
theorem dX3_begins_95 : decode cX3_begins 95 = .ok (.aload_n 0, 1) := dk_42 (dk_at dksX3_begins_4 3 rfl rfl)
theorem dX3_begins_96 : decode cX3_begins 96 = .ok (.areturn, 1) := dk_176 (dk_at dksX3_begins_4 4 rfl rfl)
abbrev cX3_many : ByteArray := prog_19_method_4_code
def yX3_many : MethodName := ⟨RX3, "many", "()I"⟩
def dkwX3_many_0 : List UInt8 := [42, 180, 0, 28, 180, 0, 71, 182, 0, 75, 172]
abbrev dktX3_many_0 : List UInt8 := dkwX3_many_0 ++ []
theorem dksX3_many_0 : cX3_many.data.toList.drop 0 = dktX3_many_0 := by decide +kernel
theorem dX3_many_0 : decode cX3_many 0 = .ok (.aload_n 0, 1) := dk_42 (dk_at dksX3_many_0 0 rfl rfl)
theorem dX3_many_1 : decode cX3_many 1 = .ok (.getfield 28, 3) := dk_180 0 28 (dk_at dksX3_many_0 1 rfl rfl)
theorem dX3_many_4 : decode cX3_many 4 = .ok (.getfield 71, 3) := dk_180 0 71 (dk_at dksX3_many_0 4 rfl rfl)
theorem dX3_many_7 : decode cX3_many 7 = .ok (.invokevirtual 75, 3) := dk_182 0 75 (dk_at dksX3_many_0 7 rfl rfl)
theorem dX3_many_10 : decode cX3_many 10 = .ok (.ireturn, 1) := dk_172 (dk_at dksX3_many_0 10 rfl rfl)
abbrev cX3_car : ByteArray := prog_19_method_5_code
def yX3_car : MethodName := ⟨RX3, "car", "(I)LFootOut$Car;"⟩
def dkwX3_car_0 : List UInt8 := [42, 180, 0, 28, 180, 0, 71, 27, 182, 0, 80, 192, 0, 63, 176]
abbrev dktX3_car_0 : List UInt8 := dkwX3_car_0 ++ []
theorem dksX3_car_0 : cX3_car.data.toList.drop 0 = dktX3_car_0 := by decide +kernel
theorem dX3_car_0 : decode cX3_car 0 = .ok (.aload_n 0, 1) := dk_42 (dk_at dksX3_car_0 0 rfl rfl)
theorem dX3_car_1 : decode cX3_car 1 = .ok (.getfield 28, 3) := dk_180 0 28 (dk_at dksX3_car_0 1 rfl rfl)
theorem dX3_car_4 : decode cX3_car 4 = .ok (.getfield 71, 3) := dk_180 0 71 (dk_at dksX3_car_0 4 rfl rfl)
theorem dX3_car_7 : decode cX3_car 7 = .ok (.iload_n 1, 1) := dk_27 (dk_at dksX3_car_0 7 rfl rfl)
theorem dX3_car_8 : decode cX3_car 8 = .ok (.invokevirtual 80, 3) := dk_182 0 80 (dk_at dksX3_car_0 8 rfl rfl)
theorem dX3_car_11 : decode cX3_car 11 = .ok (.checkcast 63, 3) := dk_192 0 63 (dk_at dksX3_car_0 11 rfl rfl)
theorem dX3_car_14 : decode cX3_car 14 = .ok (.areturn, 1) := dk_176 (dk_at dksX3_car_0 14 rfl rfl)
abbrev cX3_can : ByteArray := prog_19_method_7_code
def yX3_can : MethodName := ⟨RX3, "can", "(I)Z"⟩
def dkwX3_can_1 : List UInt8 := [180, 0, 28, 180, 0, 91, 100, 163, 0, 7, 4, 167, 0, 4, 3, 172]
abbrev dktX3_can_1 : List UInt8 := dkwX3_can_1 ++ []
def dkwX3_can_0 : List UInt8 := [42, 180, 0, 15, 27, 46, 42, 180, 0, 15, 27, 46, 4, 100, 104, 5, 108, 42, 180, 0, 9, 27, 46, 42]
abbrev dktX3_can_0 : List UInt8 := dkwX3_can_0 ++ dktX3_can_1
theorem dksX3_can_0 : cX3_can.data.toList.drop 0 = dktX3_can_0 := by decide +kernel
theorem dksX3_can_1 : cX3_can.data.toList.drop 24 = dktX3_can_1 := dk_seg dksX3_can_0 24 rfl rfl
theorem dX3_can_0 : decode cX3_can 0 = .ok (.aload_n 0, 1) := dk_42 (dk_at dksX3_can_0 0 rfl rfl)
theorem dX3_can_1 : decode cX3_can 1 = .ok (.getfield 15, 3) := dk_180 0 15 (dk_at dksX3_can_0 1 rfl rfl)
theorem dX3_can_4 : decode cX3_can 4 = .ok (.iload_n 1, 1) := dk_27 (dk_at dksX3_can_0 4 rfl rfl)
theorem dX3_can_5 : decode cX3_can 5 = .ok (.iaload, 1) := dk_46 (dk_at dksX3_can_0 5 rfl rfl)
theorem dX3_can_6 : decode cX3_can 6 = .ok (.aload_n 0, 1) := dk_42 (dk_at dksX3_can_0 6 rfl rfl)
theorem dX3_can_7 : decode cX3_can 7 = .ok (.getfield 15, 3) := dk_180 0 15 (dk_at dksX3_can_0 7 rfl rfl)
theorem dX3_can_10 : decode cX3_can 10 = .ok (.iload_n 1, 1) := dk_27 (dk_at dksX3_can_0 10 rfl rfl)
theorem dX3_can_11 : decode cX3_can 11 = .ok (.iaload, 1) := dk_46 (dk_at dksX3_can_0 11 rfl rfl)
theorem dX3_can_12 : decode cX3_can 12 = .ok (.iconst 1, 1) := dk_4 (dk_at dksX3_can_0 12 rfl rfl)
theorem dX3_can_13 : decode cX3_can 13 = .ok (.isub, 1) := dk_100 (dk_at dksX3_can_0 13 rfl rfl)
theorem dX3_can_14 : decode cX3_can 14 = .ok (.imul, 1) := dk_104 (dk_at dksX3_can_0 14 rfl rfl)
theorem dX3_can_15 : decode cX3_can 15 = .ok (.iconst 2, 1) := dk_5 (dk_at dksX3_can_0 15 rfl rfl)
theorem dX3_can_16 : decode cX3_can 16 = .ok (.idiv, 1) := dk_108 (dk_at dksX3_can_0 16 rfl rfl)
theorem dX3_can_17 : decode cX3_can 17 = .ok (.aload_n 0, 1) := dk_42 (dk_at dksX3_can_0 17 rfl rfl)
theorem dX3_can_18 : decode cX3_can 18 = .ok (.getfield 9, 3) := dk_180 0 9 (dk_at dksX3_can_0 18 rfl rfl)
theorem dX3_can_21 : decode cX3_can 21 = .ok (.iload_n 1, 1) := dk_27 (dk_at dksX3_can_0 21 rfl rfl)
theorem dX3_can_22 : decode cX3_can 22 = .ok (.iaload, 1) := dk_46 (dk_at dksX3_can_0 22 rfl rfl)
theorem dX3_can_23 : decode cX3_can 23 = .ok (.aload_n 0, 1) := dk_42 (dk_at dksX3_can_0 23 rfl rfl)
theorem dX3_can_24 : decode cX3_can 24 = .ok (.getfield 28, 3) := dk_180 0 28 (dk_at dksX3_can_1 0 rfl rfl)
theorem dX3_can_27 : decode cX3_can 27 = .ok (.getfield 91, 3) := dk_180 0 91 (dk_at dksX3_can_1 3 rfl rfl)
theorem dX3_can_30 : decode cX3_can 30 = .ok (.isub, 1) := dk_100 (dk_at dksX3_can_1 6 rfl rfl)
theorem dX3_can_31 : decode cX3_can 31 = .ok (.if_icmp .gt 7, 3) := dk_163 0 7 (dk_at dksX3_can_1 7 rfl rfl)
theorem dX3_can_34 : decode cX3_can 34 = .ok (.iconst 1, 1) := dk_4 (dk_at dksX3_can_1 10 rfl rfl)
theorem dX3_can_35 : decode cX3_can 35 = .ok (.goto 4, 3) := dk_167 0 4 (dk_at dksX3_can_1 11 rfl rfl)
theorem dX3_can_38 : decode cX3_can 38 = .ok (.iconst 0, 1) := dk_3 (dk_at dksX3_can_1 14 rfl rfl)
theorem dX3_can_39 : decode cX3_can 39 = .ok (.ireturn, 1) := dk_172 (dk_at dksX3_can_1 15 rfl rfl)
abbrev cX3_isAsked : ByteArray := prog_19_method_6_code
def yX3_isAsked : MethodName := ⟨RX3, "isAsked", "(I)Z"⟩
def dkwX3_isAsked_1 : List UInt8 := [133, 184, 0, 87, 153, 0, 7, 4, 167, 0, 4, 3, 172]
abbrev dktX3_isAsked_1 : List UInt8 := dkwX3_isAsked_1 ++ []
def dkwX3_isAsked_0 : List UInt8 := [42, 180, 0, 18, 27, 46, 154, 0, 29, 42, 180, 0, 9, 27, 46, 133, 10, 42, 180, 0, 28, 180, 0, 84]
abbrev dktX3_isAsked_0 : List UInt8 := dkwX3_isAsked_0 ++ dktX3_isAsked_1
theorem dksX3_isAsked_0 : cX3_isAsked.data.toList.drop 0 = dktX3_isAsked_0 := by decide +kernel
theorem dksX3_isAsked_1 : cX3_isAsked.data.toList.drop 24 = dktX3_isAsked_1 := dk_seg dksX3_isAsked_0 24 rfl rfl
theorem dX3_isAsked_0 : decode cX3_isAsked 0 = .ok (.aload_n 0, 1) := dk_42 (dk_at dksX3_isAsked_0 0 rfl rfl)
theorem dX3_isAsked_1 : decode cX3_isAsked 1 = .ok (.getfield 18, 3) := dk_180 0 18 (dk_at dksX3_isAsked_0 1 rfl rfl)
theorem dX3_isAsked_4 : decode cX3_isAsked 4 = .ok (.iload_n 1, 1) := dk_27 (dk_at dksX3_isAsked_0 4 rfl rfl)
theorem dX3_isAsked_5 : decode cX3_isAsked 5 = .ok (.iaload, 1) := dk_46 (dk_at dksX3_isAsked_0 5 rfl rfl)
theorem dX3_isAsked_6 : decode cX3_isAsked 6 = .ok (.ifCond .ne 29, 3) := dk_154 0 29 (dk_at dksX3_isAsked_0 6 rfl rfl)
theorem dX3_isAsked_9 : decode cX3_isAsked 9 = .ok (.aload_n 0, 1) := dk_42 (dk_at dksX3_isAsked_0 9 rfl rfl)
theorem dX3_isAsked_10 : decode cX3_isAsked 10 = .ok (.getfield 9, 3) := dk_180 0 9 (dk_at dksX3_isAsked_0 10 rfl rfl)
theorem dX3_isAsked_13 : decode cX3_isAsked 13 = .ok (.iload_n 1, 1) := dk_27 (dk_at dksX3_isAsked_0 13 rfl rfl)
theorem dX3_isAsked_14 : decode cX3_isAsked 14 = .ok (.iaload, 1) := dk_46 (dk_at dksX3_isAsked_0 14 rfl rfl)
theorem dX3_isAsked_15 : decode cX3_isAsked 15 = .ok (.i2l, 1) := dk_133 (dk_at dksX3_isAsked_0 15 rfl rfl)
theorem dX3_isAsked_16 : decode cX3_isAsked 16 = .ok (.lconst 1, 1) := dk_10 (dk_at dksX3_isAsked_0 16 rfl rfl)
theorem dX3_isAsked_17 : decode cX3_isAsked 17 = .ok (.aload_n 0, 1) := dk_42 (dk_at dksX3_isAsked_0 17 rfl rfl)
theorem dX3_isAsked_18 : decode cX3_isAsked 18 = .ok (.getfield 28, 3) := dk_180 0 28 (dk_at dksX3_isAsked_0 18 rfl rfl)
theorem dX3_isAsked_21 : decode cX3_isAsked 21 = .ok (.getfield 84, 3) := dk_180 0 84 (dk_at dksX3_isAsked_0 21 rfl rfl)
theorem dX3_isAsked_24 : decode cX3_isAsked 24 = .ok (.i2l, 1) := dk_133 (dk_at dksX3_isAsked_1 0 rfl rfl)
theorem dX3_isAsked_25 : decode cX3_isAsked 25 = .ok (.invokestatic 87, 3) := dk_184 0 87 (dk_at dksX3_isAsked_1 1 rfl rfl)
theorem dX3_isAsked_28 : decode cX3_isAsked 28 = .ok (.ifCond .eq 7, 3) := dk_153 0 7 (dk_at dksX3_isAsked_1 4 rfl rfl)
theorem dX3_isAsked_31 : decode cX3_isAsked 31 = .ok (.iconst 1, 1) := dk_4 (dk_at dksX3_isAsked_1 7 rfl rfl)
theorem dX3_isAsked_32 : decode cX3_isAsked 32 = .ok (.goto 4, 3) := dk_167 0 4 (dk_at dksX3_isAsked_1 8 rfl rfl)
theorem dX3_isAsked_35 : decode cX3_isAsked 35 = .ok (.iconst 0, 1) := dk_3 (dk_at dksX3_isAsked_1 11 rfl rfl)
theorem dX3_isAsked_36 : decode cX3_isAsked 36 = .ok (.ireturn, 1) := dk_172 (dk_at dksX3_isAsked_1 12 rfl rfl)
abbrev cX3_goesOn : ByteArray := prog_19_method_11_code
def yX3_goesOn : MethodName := ⟨RX3, "goesOn", "()V"⟩
def dkwX3_goesOn_7 : List UInt8 := [154, 0, 17, 42, 180, 0, 42, 16, 99, 160, 0, 8, 42, 6, 181, 0, 45, 177]
abbrev dktX3_goesOn_7 : List UInt8 := dkwX3_goesOn_7 ++ []
def dkwX3_goesOn_6 : List UInt8 := [167, 0, 4, 3, 96, 181, 0, 39, 42, 89, 180, 0, 42, 4, 96, 181, 0, 42, 42, 180, 0, 45]
abbrev dktX3_goesOn_6 : List UInt8 := dkwX3_goesOn_6 ++ dktX3_goesOn_7
def dkwX3_goesOn_5 : List UInt8 := [180, 0, 36, 158, 0, 8, 42, 27, 182, 0, 132, 42, 89, 180, 0, 39, 42, 182, 0, 113, 153, 0, 7, 4]
abbrev dktX3_goesOn_5 : List UInt8 := dkwX3_goesOn_5 ++ dktX3_goesOn_6
def dkwX3_goesOn_4 : List UInt8 := [182, 0, 129, 54, 4, 29, 28, 160, 0, 8, 21, 4, 167, 0, 4, 27, 60, 132, 3, 1, 167, 255, 223, 42]
abbrev dktX3_goesOn_4 : List UInt8 := dkwX3_goesOn_4 ++ dktX3_goesOn_5
def dkwX3_goesOn_3 : List UInt8 := [180, 0, 32, 167, 0, 4, 2, 61, 3, 62, 29, 42, 180, 0, 28, 180, 0, 126, 162, 0, 28, 42, 29]
abbrev dktX3_goesOn_3 : List UInt8 := dkwX3_goesOn_3 ++ dktX3_goesOn_4
def dkwX3_goesOn_2 : List UInt8 := [184, 0, 122, 153, 0, 7, 5, 167, 0, 4, 4, 181, 0, 36, 2, 60, 42, 180, 0, 36, 158, 0, 10, 42]
abbrev dktX3_goesOn_2 : List UInt8 := dkwX3_goesOn_2 ++ dktX3_goesOn_3
def dkwX3_goesOn_1 : List UInt8 := [180, 0, 39, 42, 180, 0, 28, 180, 0, 116, 161, 0, 26, 42, 42, 180, 0, 28, 180, 0, 119, 3]
abbrev dktX3_goesOn_1 : List UInt8 := dkwX3_goesOn_1 ++ dktX3_goesOn_2
def dkwX3_goesOn_0 : List UInt8 := [42, 180, 0, 36, 154, 0, 54, 42, 182, 0, 109, 154, 0, 24, 42, 182, 0, 113, 153, 0, 40, 42]
abbrev dktX3_goesOn_0 : List UInt8 := dkwX3_goesOn_0 ++ dktX3_goesOn_1
theorem dksX3_goesOn_0 : cX3_goesOn.data.toList.drop 0 = dktX3_goesOn_0 := by decide +kernel
theorem dksX3_goesOn_1 : cX3_goesOn.data.toList.drop 22 = dktX3_goesOn_1 := dk_seg dksX3_goesOn_0 22 rfl rfl
theorem dksX3_goesOn_2 : cX3_goesOn.data.toList.drop 44 = dktX3_goesOn_2 := dk_seg dksX3_goesOn_1 22 rfl rfl
theorem dksX3_goesOn_3 : cX3_goesOn.data.toList.drop 68 = dktX3_goesOn_3 := dk_seg dksX3_goesOn_2 24 rfl rfl
theorem dksX3_goesOn_4 : cX3_goesOn.data.toList.drop 91 = dktX3_goesOn_4 := dk_seg dksX3_goesOn_3 23 rfl rfl
theorem dksX3_goesOn_5 : cX3_goesOn.data.toList.drop 115 = dktX3_goesOn_5 := dk_seg dksX3_goesOn_4 24 rfl rfl
theorem dksX3_goesOn_6 : cX3_goesOn.data.toList.drop 139 = dktX3_goesOn_6 := dk_seg dksX3_goesOn_5 24 rfl rfl
theorem dksX3_goesOn_7 : cX3_goesOn.data.toList.drop 161 = dktX3_goesOn_7 := dk_seg dksX3_goesOn_6 22 rfl rfl
theorem dX3_goesOn_0 : decode cX3_goesOn 0 = .ok (.aload_n 0, 1) := dk_42 (dk_at dksX3_goesOn_0 0 rfl rfl)
theorem dX3_goesOn_1 : decode cX3_goesOn 1 = .ok (.getfield 36, 3) := dk_180 0 36 (dk_at dksX3_goesOn_0 1 rfl rfl)
theorem dX3_goesOn_4 : decode cX3_goesOn 4 = .ok (.ifCond .ne 54, 3) := dk_154 0 54 (dk_at dksX3_goesOn_0 4 rfl rfl)
theorem dX3_goesOn_7 : decode cX3_goesOn 7 = .ok (.aload_n 0, 1) := dk_42 (dk_at dksX3_goesOn_0 7 rfl rfl)
theorem dX3_goesOn_8 : decode cX3_goesOn 8 = .ok (.invokevirtual 109, 3) := dk_182 0 109 (dk_at dksX3_goesOn_0 8 rfl rfl)
theorem dX3_goesOn_11 : decode cX3_goesOn 11 = .ok (.ifCond .ne 24, 3) := dk_154 0 24 (dk_at dksX3_goesOn_0 11 rfl rfl)
theorem dX3_goesOn_14 : decode cX3_goesOn 14 = .ok (.aload_n 0, 1) := dk_42 (dk_at dksX3_goesOn_0 14 rfl rfl)
theorem dX3_goesOn_15 : decode cX3_goesOn 15 = .ok (.invokevirtual 113, 3) := dk_182 0 113 (dk_at dksX3_goesOn_0 15 rfl rfl)
theorem dX3_goesOn_18 : decode cX3_goesOn 18 = .ok (.ifCond .eq 40, 3) := dk_153 0 40 (dk_at dksX3_goesOn_0 18 rfl rfl)
theorem dX3_goesOn_21 : decode cX3_goesOn 21 = .ok (.aload_n 0, 1) := dk_42 (dk_at dksX3_goesOn_0 21 rfl rfl)
theorem dX3_goesOn_22 : decode cX3_goesOn 22 = .ok (.getfield 39, 3) := dk_180 0 39 (dk_at dksX3_goesOn_1 0 rfl rfl)
theorem dX3_goesOn_25 : decode cX3_goesOn 25 = .ok (.aload_n 0, 1) := dk_42 (dk_at dksX3_goesOn_1 3 rfl rfl)
theorem dX3_goesOn_26 : decode cX3_goesOn 26 = .ok (.getfield 28, 3) := dk_180 0 28 (dk_at dksX3_goesOn_1 4 rfl rfl)
theorem dX3_goesOn_29 : decode cX3_goesOn 29 = .ok (.getfield 116, 3) := dk_180 0 116 (dk_at dksX3_goesOn_1 7 rfl rfl)
theorem dX3_goesOn_32 : decode cX3_goesOn 32 = .ok (.if_icmp .lt 26, 3) := dk_161 0 26 (dk_at dksX3_goesOn_1 10 rfl rfl)
theorem dX3_goesOn_35 : decode cX3_goesOn 35 = .ok (.aload_n 0, 1) := dk_42 (dk_at dksX3_goesOn_1 13 rfl rfl)
theorem dX3_goesOn_36 : decode cX3_goesOn 36 = .ok (.aload_n 0, 1) := dk_42 (dk_at dksX3_goesOn_1 14 rfl rfl)
theorem dX3_goesOn_37 : decode cX3_goesOn 37 = .ok (.getfield 28, 3) := dk_180 0 28 (dk_at dksX3_goesOn_1 15 rfl rfl)
theorem dX3_goesOn_40 : decode cX3_goesOn 40 = .ok (.getfield 119, 3) := dk_180 0 119 (dk_at dksX3_goesOn_1 18 rfl rfl)
theorem dX3_goesOn_43 : decode cX3_goesOn 43 = .ok (.iconst 0, 1) := dk_3 (dk_at dksX3_goesOn_1 21 rfl rfl)
theorem dX3_goesOn_44 : decode cX3_goesOn 44 = .ok (.invokestatic 122, 3) := dk_184 0 122 (dk_at dksX3_goesOn_2 0 rfl rfl)
theorem dX3_goesOn_47 : decode cX3_goesOn 47 = .ok (.ifCond .eq 7, 3) := dk_153 0 7 (dk_at dksX3_goesOn_2 3 rfl rfl)
theorem dX3_goesOn_50 : decode cX3_goesOn 50 = .ok (.iconst 2, 1) := dk_5 (dk_at dksX3_goesOn_2 6 rfl rfl)
theorem dX3_goesOn_51 : decode cX3_goesOn 51 = .ok (.goto 4, 3) := dk_167 0 4 (dk_at dksX3_goesOn_2 7 rfl rfl)
theorem dX3_goesOn_54 : decode cX3_goesOn 54 = .ok (.iconst 1, 1) := dk_4 (dk_at dksX3_goesOn_2 10 rfl rfl)
theorem dX3_goesOn_55 : decode cX3_goesOn 55 = .ok (.putfield 36, 3) := dk_181 0 36 (dk_at dksX3_goesOn_2 11 rfl rfl)
theorem dX3_goesOn_58 : decode cX3_goesOn 58 = .ok (.iconst (-1), 1) := dk_2 (dk_at dksX3_goesOn_2 14 rfl rfl)
theorem dX3_goesOn_59 : decode cX3_goesOn 59 = .ok (.istore_n 1, 1) := dk_60 (dk_at dksX3_goesOn_2 15 rfl rfl)
theorem dX3_goesOn_60 : decode cX3_goesOn 60 = .ok (.aload_n 0, 1) := dk_42 (dk_at dksX3_goesOn_2 16 rfl rfl)
theorem dX3_goesOn_61 : decode cX3_goesOn 61 = .ok (.getfield 36, 3) := dk_180 0 36 (dk_at dksX3_goesOn_2 17 rfl rfl)
theorem dX3_goesOn_64 : decode cX3_goesOn 64 = .ok (.ifCond .le 10, 3) := dk_158 0 10 (dk_at dksX3_goesOn_2 20 rfl rfl)
theorem dX3_goesOn_67 : decode cX3_goesOn 67 = .ok (.aload_n 0, 1) := dk_42 (dk_at dksX3_goesOn_2 23 rfl rfl)
theorem dX3_goesOn_68 : decode cX3_goesOn 68 = .ok (.getfield 32, 3) := dk_180 0 32 (dk_at dksX3_goesOn_3 0 rfl rfl)
theorem dX3_goesOn_71 : decode cX3_goesOn 71 = .ok (.goto 4, 3) := dk_167 0 4 (dk_at dksX3_goesOn_3 3 rfl rfl)
theorem dX3_goesOn_74 : decode cX3_goesOn 74 = .ok (.iconst (-1), 1) := dk_2 (dk_at dksX3_goesOn_3 6 rfl rfl)
theorem dX3_goesOn_75 : decode cX3_goesOn 75 = .ok (.istore_n 2, 1) := dk_61 (dk_at dksX3_goesOn_3 7 rfl rfl)
theorem dX3_goesOn_76 : decode cX3_goesOn 76 = .ok (.iconst 0, 1) := dk_3 (dk_at dksX3_goesOn_3 8 rfl rfl)
theorem dX3_goesOn_77 : decode cX3_goesOn 77 = .ok (.istore_n 3, 1) := dk_62 (dk_at dksX3_goesOn_3 9 rfl rfl)
theorem dX3_goesOn_78 : decode cX3_goesOn 78 = .ok (.iload_n 3, 1) := dk_29 (dk_at dksX3_goesOn_3 10 rfl rfl)
theorem dX3_goesOn_79 : decode cX3_goesOn 79 = .ok (.aload_n 0, 1) := dk_42 (dk_at dksX3_goesOn_3 11 rfl rfl)
theorem dX3_goesOn_80 : decode cX3_goesOn 80 = .ok (.getfield 28, 3) := dk_180 0 28 (dk_at dksX3_goesOn_3 12 rfl rfl)
theorem dX3_goesOn_83 : decode cX3_goesOn 83 = .ok (.getfield 126, 3) := dk_180 0 126 (dk_at dksX3_goesOn_3 15 rfl rfl)
theorem dX3_goesOn_86 : decode cX3_goesOn 86 = .ok (.if_icmp .ge 28, 3) := dk_162 0 28 (dk_at dksX3_goesOn_3 18 rfl rfl)
theorem dX3_goesOn_89 : decode cX3_goesOn 89 = .ok (.aload_n 0, 1) := dk_42 (dk_at dksX3_goesOn_3 21 rfl rfl)
theorem dX3_goesOn_90 : decode cX3_goesOn 90 = .ok (.iload_n 3, 1) := dk_29 (dk_at dksX3_goesOn_3 22 rfl rfl)
theorem dX3_goesOn_91 : decode cX3_goesOn 91 = .ok (.invokevirtual 129, 3) := dk_182 0 129 (dk_at dksX3_goesOn_4 0 rfl rfl)
theorem dX3_goesOn_94 : decode cX3_goesOn 94 = .ok (.istore 4, 2) := dk_54 4 (dk_at dksX3_goesOn_4 3 rfl rfl)
theorem dX3_goesOn_96 : decode cX3_goesOn 96 = .ok (.iload_n 3, 1) := dk_29 (dk_at dksX3_goesOn_4 5 rfl rfl)
theorem dX3_goesOn_97 : decode cX3_goesOn 97 = .ok (.iload_n 2, 1) := dk_28 (dk_at dksX3_goesOn_4 6 rfl rfl)
theorem dX3_goesOn_98 : decode cX3_goesOn 98 = .ok (.if_icmp .ne 8, 3) := dk_160 0 8 (dk_at dksX3_goesOn_4 7 rfl rfl)
theorem dX3_goesOn_101 : decode cX3_goesOn 101 = .ok (.iload 4, 2) := dk_21 4 (dk_at dksX3_goesOn_4 10 rfl rfl)
theorem dX3_goesOn_103 : decode cX3_goesOn 103 = .ok (.goto 4, 3) := dk_167 0 4 (dk_at dksX3_goesOn_4 12 rfl rfl)
theorem dX3_goesOn_106 : decode cX3_goesOn 106 = .ok (.iload_n 1, 1) := dk_27 (dk_at dksX3_goesOn_4 15 rfl rfl)
theorem dX3_goesOn_107 : decode cX3_goesOn 107 = .ok (.istore_n 1, 1) := dk_60 (dk_at dksX3_goesOn_4 16 rfl rfl)
theorem dX3_goesOn_108 : decode cX3_goesOn 108 = .ok (.iinc 3 1, 3) := dk_132 3 1 (dk_at dksX3_goesOn_4 17 rfl rfl)
theorem dX3_goesOn_111 : decode cX3_goesOn 111 = .ok (.goto (-33), 3) := dk_167 255 223 (dk_at dksX3_goesOn_4 20 rfl rfl)
theorem dX3_goesOn_114 : decode cX3_goesOn 114 = .ok (.aload_n 0, 1) := dk_42 (dk_at dksX3_goesOn_4 23 rfl rfl)
theorem dX3_goesOn_115 : decode cX3_goesOn 115 = .ok (.getfield 36, 3) := dk_180 0 36 (dk_at dksX3_goesOn_5 0 rfl rfl)
theorem dX3_goesOn_118 : decode cX3_goesOn 118 = .ok (.ifCond .le 8, 3) := dk_158 0 8 (dk_at dksX3_goesOn_5 3 rfl rfl)
theorem dX3_goesOn_121 : decode cX3_goesOn 121 = .ok (.aload_n 0, 1) := dk_42 (dk_at dksX3_goesOn_5 6 rfl rfl)
theorem dX3_goesOn_122 : decode cX3_goesOn 122 = .ok (.iload_n 1, 1) := dk_27 (dk_at dksX3_goesOn_5 7 rfl rfl)
theorem dX3_goesOn_123 : decode cX3_goesOn 123 = .ok (.invokevirtual 132, 3) := dk_182 0 132 (dk_at dksX3_goesOn_5 8 rfl rfl)
theorem dX3_goesOn_126 : decode cX3_goesOn 126 = .ok (.aload_n 0, 1) := dk_42 (dk_at dksX3_goesOn_5 11 rfl rfl)
theorem dX3_goesOn_127 : decode cX3_goesOn 127 = .ok (.dup, 1) := dk_89 (dk_at dksX3_goesOn_5 12 rfl rfl)
theorem dX3_goesOn_128 : decode cX3_goesOn 128 = .ok (.getfield 39, 3) := dk_180 0 39 (dk_at dksX3_goesOn_5 13 rfl rfl)
theorem dX3_goesOn_131 : decode cX3_goesOn 131 = .ok (.aload_n 0, 1) := dk_42 (dk_at dksX3_goesOn_5 16 rfl rfl)
theorem dX3_goesOn_132 : decode cX3_goesOn 132 = .ok (.invokevirtual 113, 3) := dk_182 0 113 (dk_at dksX3_goesOn_5 17 rfl rfl)
theorem dX3_goesOn_135 : decode cX3_goesOn 135 = .ok (.ifCond .eq 7, 3) := dk_153 0 7 (dk_at dksX3_goesOn_5 20 rfl rfl)
theorem dX3_goesOn_138 : decode cX3_goesOn 138 = .ok (.iconst 1, 1) := dk_4 (dk_at dksX3_goesOn_5 23 rfl rfl)
theorem dX3_goesOn_139 : decode cX3_goesOn 139 = .ok (.goto 4, 3) := dk_167 0 4 (dk_at dksX3_goesOn_6 0 rfl rfl)
theorem dX3_goesOn_142 : decode cX3_goesOn 142 = .ok (.iconst 0, 1) := dk_3 (dk_at dksX3_goesOn_6 3 rfl rfl)
theorem dX3_goesOn_143 : decode cX3_goesOn 143 = .ok (.iadd, 1) := dk_96 (dk_at dksX3_goesOn_6 4 rfl rfl)
theorem dX3_goesOn_144 : decode cX3_goesOn 144 = .ok (.putfield 39, 3) := dk_181 0 39 (dk_at dksX3_goesOn_6 5 rfl rfl)
theorem dX3_goesOn_147 : decode cX3_goesOn 147 = .ok (.aload_n 0, 1) := dk_42 (dk_at dksX3_goesOn_6 8 rfl rfl)
theorem dX3_goesOn_148 : decode cX3_goesOn 148 = .ok (.dup, 1) := dk_89 (dk_at dksX3_goesOn_6 9 rfl rfl)
theorem dX3_goesOn_149 : decode cX3_goesOn 149 = .ok (.getfield 42, 3) := dk_180 0 42 (dk_at dksX3_goesOn_6 10 rfl rfl)
theorem dX3_goesOn_152 : decode cX3_goesOn 152 = .ok (.iconst 1, 1) := dk_4 (dk_at dksX3_goesOn_6 13 rfl rfl)
theorem dX3_goesOn_153 : decode cX3_goesOn 153 = .ok (.iadd, 1) := dk_96 (dk_at dksX3_goesOn_6 14 rfl rfl)
theorem dX3_goesOn_154 : decode cX3_goesOn 154 = .ok (.putfield 42, 3) := dk_181 0 42 (dk_at dksX3_goesOn_6 15 rfl rfl)
theorem dX3_goesOn_157 : decode cX3_goesOn 157 = .ok (.aload_n 0, 1) := dk_42 (dk_at dksX3_goesOn_6 18 rfl rfl)
theorem dX3_goesOn_158 : decode cX3_goesOn 158 = .ok (.getfield 45, 3) := dk_180 0 45 (dk_at dksX3_goesOn_6 19 rfl rfl)
theorem dX3_goesOn_161 : decode cX3_goesOn 161 = .ok (.ifCond .ne 17, 3) := dk_154 0 17 (dk_at dksX3_goesOn_7 0 rfl rfl)
theorem dX3_goesOn_164 : decode cX3_goesOn 164 = .ok (.aload_n 0, 1) := dk_42 (dk_at dksX3_goesOn_7 3 rfl rfl)
theorem dX3_goesOn_165 : decode cX3_goesOn 165 = .ok (.getfield 42, 3) := dk_180 0 42 (dk_at dksX3_goesOn_7 4 rfl rfl)
theorem dX3_goesOn_168 : decode cX3_goesOn 168 = .ok (.bipush 99, 2) := dk_16 99 (dk_at dksX3_goesOn_7 7 rfl rfl)
theorem dX3_goesOn_170 : decode cX3_goesOn 170 = .ok (.if_icmp .ne 8, 3) := dk_160 0 8 (dk_at dksX3_goesOn_7 9 rfl rfl)
theorem dX3_goesOn_173 : decode cX3_goesOn 173 = .ok (.aload_n 0, 1) := dk_42 (dk_at dksX3_goesOn_7 12 rfl rfl)
theorem dX3_goesOn_174 : decode cX3_goesOn 174 = .ok (.iconst 3, 1) := dk_6 (dk_at dksX3_goesOn_7 13 rfl rfl)
theorem dX3_goesOn_175 : decode cX3_goesOn 175 = .ok (.putfield 45, 3) := dk_181 0 45 (dk_at dksX3_goesOn_7 14 rfl rfl)
theorem dX3_goesOn_178 : decode cX3_goesOn 178 = .ok (.return_, 1) := dk_177 (dk_at dksX3_goesOn_7 17 rfl rfl)
abbrev cX3_isFree : ByteArray := prog_19_method_10_code
def yX3_isFree : MethodName := ⟨RX3, "isFree", "()Z"⟩
def dkwX3_isFree_4 : List UInt8 := [163, 0, 5, 3, 172, 132, 1, 1, 167, 255, 157, 4, 172]
abbrev dktX3_isFree_4 : List UInt8 := dkwX3_isFree_4 ++ []
def dkwX3_isFree_3 : List UInt8 := [46, 42, 180, 0, 15, 27, 46, 96, 4, 100, 42, 180, 0, 15, 27, 46, 108, 42, 180, 0, 28, 180, 0, 106]
abbrev dktX3_isFree_3 : List UInt8 := dkwX3_isFree_3 ++ dktX3_isFree_4
def dkwX3_isFree_2 : List UInt8 := [180, 0, 21, 27, 51, 154, 0, 48, 42, 27, 182, 0, 102, 153, 0, 6, 167, 0, 37, 42, 180, 0, 9, 27]
abbrev dktX3_isFree_2 : List UInt8 := dkwX3_isFree_2 ++ dktX3_isFree_3
def dkwX3_isFree_1 : List UInt8 := [160, 0, 76, 42, 180, 0, 9, 27, 46, 158, 0, 67, 42, 180, 0, 18, 27, 46, 5, 159, 0, 57, 42]
abbrev dktX3_isFree_1 : List UInt8 := dkwX3_isFree_1 ++ dktX3_isFree_2
def dkwX3_isFree_0 : List UInt8 := [3, 60, 27, 42, 182, 0, 54, 162, 0, 97, 42, 27, 182, 0, 58, 180, 0, 94, 42, 180, 0, 32]
abbrev dktX3_isFree_0 : List UInt8 := dkwX3_isFree_0 ++ dktX3_isFree_1
theorem dksX3_isFree_0 : cX3_isFree.data.toList.drop 0 = dktX3_isFree_0 := by decide +kernel
theorem dksX3_isFree_1 : cX3_isFree.data.toList.drop 22 = dktX3_isFree_1 := dk_seg dksX3_isFree_0 22 rfl rfl
theorem dksX3_isFree_2 : cX3_isFree.data.toList.drop 45 = dktX3_isFree_2 := dk_seg dksX3_isFree_1 23 rfl rfl
theorem dksX3_isFree_3 : cX3_isFree.data.toList.drop 69 = dktX3_isFree_3 := dk_seg dksX3_isFree_2 24 rfl rfl
theorem dksX3_isFree_4 : cX3_isFree.data.toList.drop 93 = dktX3_isFree_4 := dk_seg dksX3_isFree_3 24 rfl rfl
theorem dX3_isFree_0 : decode cX3_isFree 0 = .ok (.iconst 0, 1) := dk_3 (dk_at dksX3_isFree_0 0 rfl rfl)
theorem dX3_isFree_1 : decode cX3_isFree 1 = .ok (.istore_n 1, 1) := dk_60 (dk_at dksX3_isFree_0 1 rfl rfl)
theorem dX3_isFree_2 : decode cX3_isFree 2 = .ok (.iload_n 1, 1) := dk_27 (dk_at dksX3_isFree_0 2 rfl rfl)
theorem dX3_isFree_3 : decode cX3_isFree 3 = .ok (.aload_n 0, 1) := dk_42 (dk_at dksX3_isFree_0 3 rfl rfl)
theorem dX3_isFree_4 : decode cX3_isFree 4 = .ok (.invokevirtual 54, 3) := dk_182 0 54 (dk_at dksX3_isFree_0 4 rfl rfl)
theorem dX3_isFree_7 : decode cX3_isFree 7 = .ok (.if_icmp .ge 97, 3) := dk_162 0 97 (dk_at dksX3_isFree_0 7 rfl rfl)
theorem dX3_isFree_10 : decode cX3_isFree 10 = .ok (.aload_n 0, 1) := dk_42 (dk_at dksX3_isFree_0 10 rfl rfl)
theorem dX3_isFree_11 : decode cX3_isFree 11 = .ok (.iload_n 1, 1) := dk_27 (dk_at dksX3_isFree_0 11 rfl rfl)
theorem dX3_isFree_12 : decode cX3_isFree 12 = .ok (.invokevirtual 58, 3) := dk_182 0 58 (dk_at dksX3_isFree_0 12 rfl rfl)
theorem dX3_isFree_15 : decode cX3_isFree 15 = .ok (.getfield 94, 3) := dk_180 0 94 (dk_at dksX3_isFree_0 15 rfl rfl)
theorem dX3_isFree_18 : decode cX3_isFree 18 = .ok (.aload_n 0, 1) := dk_42 (dk_at dksX3_isFree_0 18 rfl rfl)
theorem dX3_isFree_19 : decode cX3_isFree 19 = .ok (.getfield 32, 3) := dk_180 0 32 (dk_at dksX3_isFree_0 19 rfl rfl)
theorem dX3_isFree_22 : decode cX3_isFree 22 = .ok (.if_icmp .ne 76, 3) := dk_160 0 76 (dk_at dksX3_isFree_1 0 rfl rfl)
theorem dX3_isFree_25 : decode cX3_isFree 25 = .ok (.aload_n 0, 1) := dk_42 (dk_at dksX3_isFree_1 3 rfl rfl)
theorem dX3_isFree_26 : decode cX3_isFree 26 = .ok (.getfield 9, 3) := dk_180 0 9 (dk_at dksX3_isFree_1 4 rfl rfl)
theorem dX3_isFree_29 : decode cX3_isFree 29 = .ok (.iload_n 1, 1) := dk_27 (dk_at dksX3_isFree_1 7 rfl rfl)
theorem dX3_isFree_30 : decode cX3_isFree 30 = .ok (.iaload, 1) := dk_46 (dk_at dksX3_isFree_1 8 rfl rfl)
theorem dX3_isFree_31 : decode cX3_isFree 31 = .ok (.ifCond .le 67, 3) := dk_158 0 67 (dk_at dksX3_isFree_1 9 rfl rfl)
theorem dX3_isFree_34 : decode cX3_isFree 34 = .ok (.aload_n 0, 1) := dk_42 (dk_at dksX3_isFree_1 12 rfl rfl)
theorem dX3_isFree_35 : decode cX3_isFree 35 = .ok (.getfield 18, 3) := dk_180 0 18 (dk_at dksX3_isFree_1 13 rfl rfl)
theorem dX3_isFree_38 : decode cX3_isFree 38 = .ok (.iload_n 1, 1) := dk_27 (dk_at dksX3_isFree_1 16 rfl rfl)
theorem dX3_isFree_39 : decode cX3_isFree 39 = .ok (.iaload, 1) := dk_46 (dk_at dksX3_isFree_1 17 rfl rfl)
theorem dX3_isFree_40 : decode cX3_isFree 40 = .ok (.iconst 2, 1) := dk_5 (dk_at dksX3_isFree_1 18 rfl rfl)
theorem dX3_isFree_41 : decode cX3_isFree 41 = .ok (.if_icmp .eq 57, 3) := dk_159 0 57 (dk_at dksX3_isFree_1 19 rfl rfl)
theorem dX3_isFree_44 : decode cX3_isFree 44 = .ok (.aload_n 0, 1) := dk_42 (dk_at dksX3_isFree_1 22 rfl rfl)
theorem dX3_isFree_45 : decode cX3_isFree 45 = .ok (.getfield 21, 3) := dk_180 0 21 (dk_at dksX3_isFree_2 0 rfl rfl)
theorem dX3_isFree_48 : decode cX3_isFree 48 = .ok (.iload_n 1, 1) := dk_27 (dk_at dksX3_isFree_2 3 rfl rfl)
theorem dX3_isFree_49 : decode cX3_isFree 49 = .ok (.baload, 1) := dk_51 (dk_at dksX3_isFree_2 4 rfl rfl)
theorem dX3_isFree_50 : decode cX3_isFree 50 = .ok (.ifCond .ne 48, 3) := dk_154 0 48 (dk_at dksX3_isFree_2 5 rfl rfl)
theorem dX3_isFree_53 : decode cX3_isFree 53 = .ok (.aload_n 0, 1) := dk_42 (dk_at dksX3_isFree_2 8 rfl rfl)
theorem dX3_isFree_54 : decode cX3_isFree 54 = .ok (.iload_n 1, 1) := dk_27 (dk_at dksX3_isFree_2 9 rfl rfl)
theorem dX3_isFree_55 : decode cX3_isFree 55 = .ok (.invokevirtual 102, 3) := dk_182 0 102 (dk_at dksX3_isFree_2 10 rfl rfl)
theorem dX3_isFree_58 : decode cX3_isFree 58 = .ok (.ifCond .eq 6, 3) := dk_153 0 6 (dk_at dksX3_isFree_2 13 rfl rfl)
theorem dX3_isFree_61 : decode cX3_isFree 61 = .ok (.goto 37, 3) := dk_167 0 37 (dk_at dksX3_isFree_2 16 rfl rfl)
theorem dX3_isFree_64 : decode cX3_isFree 64 = .ok (.aload_n 0, 1) := dk_42 (dk_at dksX3_isFree_2 19 rfl rfl)
theorem dX3_isFree_65 : decode cX3_isFree 65 = .ok (.getfield 9, 3) := dk_180 0 9 (dk_at dksX3_isFree_2 20 rfl rfl)
theorem dX3_isFree_68 : decode cX3_isFree 68 = .ok (.iload_n 1, 1) := dk_27 (dk_at dksX3_isFree_2 23 rfl rfl)
theorem dX3_isFree_69 : decode cX3_isFree 69 = .ok (.iaload, 1) := dk_46 (dk_at dksX3_isFree_3 0 rfl rfl)
theorem dX3_isFree_70 : decode cX3_isFree 70 = .ok (.aload_n 0, 1) := dk_42 (dk_at dksX3_isFree_3 1 rfl rfl)
theorem dX3_isFree_71 : decode cX3_isFree 71 = .ok (.getfield 15, 3) := dk_180 0 15 (dk_at dksX3_isFree_3 2 rfl rfl)
theorem dX3_isFree_74 : decode cX3_isFree 74 = .ok (.iload_n 1, 1) := dk_27 (dk_at dksX3_isFree_3 5 rfl rfl)
theorem dX3_isFree_75 : decode cX3_isFree 75 = .ok (.iaload, 1) := dk_46 (dk_at dksX3_isFree_3 6 rfl rfl)
theorem dX3_isFree_76 : decode cX3_isFree 76 = .ok (.iadd, 1) := dk_96 (dk_at dksX3_isFree_3 7 rfl rfl)
theorem dX3_isFree_77 : decode cX3_isFree 77 = .ok (.iconst 1, 1) := dk_4 (dk_at dksX3_isFree_3 8 rfl rfl)
theorem dX3_isFree_78 : decode cX3_isFree 78 = .ok (.isub, 1) := dk_100 (dk_at dksX3_isFree_3 9 rfl rfl)
theorem dX3_isFree_79 : decode cX3_isFree 79 = .ok (.aload_n 0, 1) := dk_42 (dk_at dksX3_isFree_3 10 rfl rfl)
theorem dX3_isFree_80 : decode cX3_isFree 80 = .ok (.getfield 15, 3) := dk_180 0 15 (dk_at dksX3_isFree_3 11 rfl rfl)
theorem dX3_isFree_83 : decode cX3_isFree 83 = .ok (.iload_n 1, 1) := dk_27 (dk_at dksX3_isFree_3 14 rfl rfl)
theorem dX3_isFree_84 : decode cX3_isFree 84 = .ok (.iaload, 1) := dk_46 (dk_at dksX3_isFree_3 15 rfl rfl)
theorem dX3_isFree_85 : decode cX3_isFree 85 = .ok (.idiv, 1) := dk_108 (dk_at dksX3_isFree_3 16 rfl rfl)
theorem dX3_isFree_86 : decode cX3_isFree 86 = .ok (.aload_n 0, 1) := dk_42 (dk_at dksX3_isFree_3 17 rfl rfl)
theorem dX3_isFree_87 : decode cX3_isFree 87 = .ok (.getfield 28, 3) := dk_180 0 28 (dk_at dksX3_isFree_3 18 rfl rfl)
theorem dX3_isFree_90 : decode cX3_isFree 90 = .ok (.getfield 106, 3) := dk_180 0 106 (dk_at dksX3_isFree_3 21 rfl rfl)
theorem dX3_isFree_93 : decode cX3_isFree 93 = .ok (.if_icmp .gt 5, 3) := dk_163 0 5 (dk_at dksX3_isFree_4 0 rfl rfl)
theorem dX3_isFree_96 : decode cX3_isFree 96 = .ok (.iconst 0, 1) := dk_3 (dk_at dksX3_isFree_4 3 rfl rfl)
theorem dX3_isFree_97 : decode cX3_isFree 97 = .ok (.ireturn, 1) := dk_172 (dk_at dksX3_isFree_4 4 rfl rfl)
theorem dX3_isFree_98 : decode cX3_isFree 98 = .ok (.iinc 1 1, 3) := dk_132 1 1 (dk_at dksX3_isFree_4 5 rfl rfl)
theorem dX3_isFree_101 : decode cX3_isFree 101 = .ok (.goto (-99), 3) := dk_167 255 157 (dk_at dksX3_isFree_4 8 rfl rfl)
theorem dX3_isFree_104 : decode cX3_isFree 104 = .ok (.iconst 1, 1) := dk_4 (dk_at dksX3_isFree_4 11 rfl rfl)
theorem dX3_isFree_105 : decode cX3_isFree 105 = .ok (.ireturn, 1) := dk_172 (dk_at dksX3_isFree_4 12 rfl rfl)
abbrev cX3_isHidden : ByteArray := prog_19_method_9_code
def yX3_isHidden : MethodName := ⟨RX3, "isHidden", "(I)Z"⟩
def dkwX3_isHidden_4 : List UInt8 := [167, 255, 164, 3, 172]
abbrev dktX3_isHidden_4 : List UInt8 := dkwX3_isHidden_4 ++ []
def dkwX3_isHidden_3 : List UInt8 := [153, 0, 20, 42, 180, 0, 9, 28, 46, 42, 180, 0, 9, 27, 46, 162, 0, 5, 4, 172, 132, 2, 1]
abbrev dktX3_isHidden_3 : List UInt8 := dkwX3_isHidden_3 ++ dktX3_isHidden_4
def dkwX3_isHidden_2 : List UInt8 := [42, 180, 0, 15, 28, 46, 154, 0, 37, 42, 180, 0, 9, 28, 46, 133, 10, 20, 0, 100, 184, 0, 87]
abbrev dktX3_isHidden_2 : List UInt8 := dkwX3_isHidden_2 ++ dktX3_isHidden_3
def dkwX3_isHidden_1 : List UInt8 := [160, 0, 67, 42, 28, 182, 0, 58, 180, 0, 97, 158, 0, 56, 42, 180, 0, 18, 28, 46, 5, 160, 0, 46]
abbrev dktX3_isHidden_1 : List UInt8 := dkwX3_isHidden_1 ++ dktX3_isHidden_2
def dkwX3_isHidden_0 : List UInt8 := [3, 61, 28, 42, 182, 0, 54, 162, 0, 90, 42, 28, 182, 0, 58, 180, 0, 94, 42, 180, 0, 32, 4, 100]
abbrev dktX3_isHidden_0 : List UInt8 := dkwX3_isHidden_0 ++ dktX3_isHidden_1
theorem dksX3_isHidden_0 : cX3_isHidden.data.toList.drop 0 = dktX3_isHidden_0 := by decide +kernel
theorem dksX3_isHidden_1 : cX3_isHidden.data.toList.drop 24 = dktX3_isHidden_1 := dk_seg dksX3_isHidden_0 24 rfl rfl
theorem dksX3_isHidden_2 : cX3_isHidden.data.toList.drop 48 = dktX3_isHidden_2 := dk_seg dksX3_isHidden_1 24 rfl rfl
theorem dksX3_isHidden_3 : cX3_isHidden.data.toList.drop 71 = dktX3_isHidden_3 := dk_seg dksX3_isHidden_2 23 rfl rfl
theorem dksX3_isHidden_4 : cX3_isHidden.data.toList.drop 94 = dktX3_isHidden_4 := dk_seg dksX3_isHidden_3 23 rfl rfl
theorem dX3_isHidden_0 : decode cX3_isHidden 0 = .ok (.iconst 0, 1) := dk_3 (dk_at dksX3_isHidden_0 0 rfl rfl)
theorem dX3_isHidden_1 : decode cX3_isHidden 1 = .ok (.istore_n 2, 1) := dk_61 (dk_at dksX3_isHidden_0 1 rfl rfl)
theorem dX3_isHidden_2 : decode cX3_isHidden 2 = .ok (.iload_n 2, 1) := dk_28 (dk_at dksX3_isHidden_0 2 rfl rfl)
theorem dX3_isHidden_3 : decode cX3_isHidden 3 = .ok (.aload_n 0, 1) := dk_42 (dk_at dksX3_isHidden_0 3 rfl rfl)
theorem dX3_isHidden_4 : decode cX3_isHidden 4 = .ok (.invokevirtual 54, 3) := dk_182 0 54 (dk_at dksX3_isHidden_0 4 rfl rfl)
theorem dX3_isHidden_7 : decode cX3_isHidden 7 = .ok (.if_icmp .ge 90, 3) := dk_162 0 90 (dk_at dksX3_isHidden_0 7 rfl rfl)
theorem dX3_isHidden_10 : decode cX3_isHidden 10 = .ok (.aload_n 0, 1) := dk_42 (dk_at dksX3_isHidden_0 10 rfl rfl)
theorem dX3_isHidden_11 : decode cX3_isHidden 11 = .ok (.iload_n 2, 1) := dk_28 (dk_at dksX3_isHidden_0 11 rfl rfl)
theorem dX3_isHidden_12 : decode cX3_isHidden 12 = .ok (.invokevirtual 58, 3) := dk_182 0 58 (dk_at dksX3_isHidden_0 12 rfl rfl)
theorem dX3_isHidden_15 : decode cX3_isHidden 15 = .ok (.getfield 94, 3) := dk_180 0 94 (dk_at dksX3_isHidden_0 15 rfl rfl)
theorem dX3_isHidden_18 : decode cX3_isHidden 18 = .ok (.aload_n 0, 1) := dk_42 (dk_at dksX3_isHidden_0 18 rfl rfl)
theorem dX3_isHidden_19 : decode cX3_isHidden 19 = .ok (.getfield 32, 3) := dk_180 0 32 (dk_at dksX3_isHidden_0 19 rfl rfl)
theorem dX3_isHidden_22 : decode cX3_isHidden 22 = .ok (.iconst 1, 1) := dk_4 (dk_at dksX3_isHidden_0 22 rfl rfl)
theorem dX3_isHidden_23 : decode cX3_isHidden 23 = .ok (.isub, 1) := dk_100 (dk_at dksX3_isHidden_0 23 rfl rfl)
theorem dX3_isHidden_24 : decode cX3_isHidden 24 = .ok (.if_icmp .ne 67, 3) := dk_160 0 67 (dk_at dksX3_isHidden_1 0 rfl rfl)
theorem dX3_isHidden_27 : decode cX3_isHidden 27 = .ok (.aload_n 0, 1) := dk_42 (dk_at dksX3_isHidden_1 3 rfl rfl)
theorem dX3_isHidden_28 : decode cX3_isHidden 28 = .ok (.iload_n 2, 1) := dk_28 (dk_at dksX3_isHidden_1 4 rfl rfl)
theorem dX3_isHidden_29 : decode cX3_isHidden 29 = .ok (.invokevirtual 58, 3) := dk_182 0 58 (dk_at dksX3_isHidden_1 5 rfl rfl)
theorem dX3_isHidden_32 : decode cX3_isHidden 32 = .ok (.getfield 97, 3) := dk_180 0 97 (dk_at dksX3_isHidden_1 8 rfl rfl)
theorem dX3_isHidden_35 : decode cX3_isHidden 35 = .ok (.ifCond .le 56, 3) := dk_158 0 56 (dk_at dksX3_isHidden_1 11 rfl rfl)
theorem dX3_isHidden_38 : decode cX3_isHidden 38 = .ok (.aload_n 0, 1) := dk_42 (dk_at dksX3_isHidden_1 14 rfl rfl)
theorem dX3_isHidden_39 : decode cX3_isHidden 39 = .ok (.getfield 18, 3) := dk_180 0 18 (dk_at dksX3_isHidden_1 15 rfl rfl)
theorem dX3_isHidden_42 : decode cX3_isHidden 42 = .ok (.iload_n 2, 1) := dk_28 (dk_at dksX3_isHidden_1 18 rfl rfl)
theorem dX3_isHidden_43 : decode cX3_isHidden 43 = .ok (.iaload, 1) := dk_46 (dk_at dksX3_isHidden_1 19 rfl rfl)
theorem dX3_isHidden_44 : decode cX3_isHidden 44 = .ok (.iconst 2, 1) := dk_5 (dk_at dksX3_isHidden_1 20 rfl rfl)
theorem dX3_isHidden_45 : decode cX3_isHidden 45 = .ok (.if_icmp .ne 46, 3) := dk_160 0 46 (dk_at dksX3_isHidden_1 21 rfl rfl)
theorem dX3_isHidden_48 : decode cX3_isHidden 48 = .ok (.aload_n 0, 1) := dk_42 (dk_at dksX3_isHidden_2 0 rfl rfl)
theorem dX3_isHidden_49 : decode cX3_isHidden 49 = .ok (.getfield 15, 3) := dk_180 0 15 (dk_at dksX3_isHidden_2 1 rfl rfl)
theorem dX3_isHidden_52 : decode cX3_isHidden 52 = .ok (.iload_n 2, 1) := dk_28 (dk_at dksX3_isHidden_2 4 rfl rfl)
theorem dX3_isHidden_53 : decode cX3_isHidden 53 = .ok (.iaload, 1) := dk_46 (dk_at dksX3_isHidden_2 5 rfl rfl)
theorem dX3_isHidden_54 : decode cX3_isHidden 54 = .ok (.ifCond .ne 37, 3) := dk_154 0 37 (dk_at dksX3_isHidden_2 6 rfl rfl)
theorem dX3_isHidden_57 : decode cX3_isHidden 57 = .ok (.aload_n 0, 1) := dk_42 (dk_at dksX3_isHidden_2 9 rfl rfl)
theorem dX3_isHidden_58 : decode cX3_isHidden 58 = .ok (.getfield 9, 3) := dk_180 0 9 (dk_at dksX3_isHidden_2 10 rfl rfl)
theorem dX3_isHidden_61 : decode cX3_isHidden 61 = .ok (.iload_n 2, 1) := dk_28 (dk_at dksX3_isHidden_2 13 rfl rfl)
theorem dX3_isHidden_62 : decode cX3_isHidden 62 = .ok (.iaload, 1) := dk_46 (dk_at dksX3_isHidden_2 14 rfl rfl)
theorem dX3_isHidden_63 : decode cX3_isHidden 63 = .ok (.i2l, 1) := dk_133 (dk_at dksX3_isHidden_2 15 rfl rfl)
theorem dX3_isHidden_64 : decode cX3_isHidden 64 = .ok (.lconst 1, 1) := dk_10 (dk_at dksX3_isHidden_2 16 rfl rfl)
theorem dX3_isHidden_65 : decode cX3_isHidden 65 = .ok (.ldc2_w 100, 3) := dk_20 0 100 (dk_at dksX3_isHidden_2 17 rfl rfl)
theorem dX3_isHidden_68 : decode cX3_isHidden 68 = .ok (.invokestatic 87, 3) := dk_184 0 87 (dk_at dksX3_isHidden_2 20 rfl rfl)
theorem dX3_isHidden_71 : decode cX3_isHidden 71 = .ok (.ifCond .eq 20, 3) := dk_153 0 20 (dk_at dksX3_isHidden_3 0 rfl rfl)
theorem dX3_isHidden_74 : decode cX3_isHidden 74 = .ok (.aload_n 0, 1) := dk_42 (dk_at dksX3_isHidden_3 3 rfl rfl)
theorem dX3_isHidden_75 : decode cX3_isHidden 75 = .ok (.getfield 9, 3) := dk_180 0 9 (dk_at dksX3_isHidden_3 4 rfl rfl)
theorem dX3_isHidden_78 : decode cX3_isHidden 78 = .ok (.iload_n 2, 1) := dk_28 (dk_at dksX3_isHidden_3 7 rfl rfl)
theorem dX3_isHidden_79 : decode cX3_isHidden 79 = .ok (.iaload, 1) := dk_46 (dk_at dksX3_isHidden_3 8 rfl rfl)
theorem dX3_isHidden_80 : decode cX3_isHidden 80 = .ok (.aload_n 0, 1) := dk_42 (dk_at dksX3_isHidden_3 9 rfl rfl)
theorem dX3_isHidden_81 : decode cX3_isHidden 81 = .ok (.getfield 9, 3) := dk_180 0 9 (dk_at dksX3_isHidden_3 10 rfl rfl)
theorem dX3_isHidden_84 : decode cX3_isHidden 84 = .ok (.iload_n 1, 1) := dk_27 (dk_at dksX3_isHidden_3 13 rfl rfl)
theorem dX3_isHidden_85 : decode cX3_isHidden 85 = .ok (.iaload, 1) := dk_46 (dk_at dksX3_isHidden_3 14 rfl rfl)
theorem dX3_isHidden_86 : decode cX3_isHidden 86 = .ok (.if_icmp .ge 5, 3) := dk_162 0 5 (dk_at dksX3_isHidden_3 15 rfl rfl)
theorem dX3_isHidden_89 : decode cX3_isHidden 89 = .ok (.iconst 1, 1) := dk_4 (dk_at dksX3_isHidden_3 18 rfl rfl)
theorem dX3_isHidden_90 : decode cX3_isHidden 90 = .ok (.ireturn, 1) := dk_172 (dk_at dksX3_isHidden_3 19 rfl rfl)
theorem dX3_isHidden_91 : decode cX3_isHidden 91 = .ok (.iinc 2 1, 3) := dk_132 2 1 (dk_at dksX3_isHidden_3 20 rfl rfl)
theorem dX3_isHidden_94 : decode cX3_isHidden 94 = .ok (.goto (-92), 3) := dk_167 255 164 (dk_at dksX3_isHidden_4 0 rfl rfl)
theorem dX3_isHidden_97 : decode cX3_isHidden 97 = .ok (.iconst 0, 1) := dk_3 (dk_at dksX3_isHidden_4 3 rfl rfl)
theorem dX3_isHidden_98 : decode cX3_isHidden 98 = .ok (.ireturn, 1) := dk_172 (dk_at dksX3_isHidden_4 4 rfl rfl)
abbrev cX3_isAtKerb : ByteArray := prog_19_method_8_code
def yX3_isAtKerb : MethodName := ⟨RX3, "isAtKerb", "()Z"⟩
def dkwX3_isAtKerb_0 : List UInt8 := [42, 180, 0, 32, 154, 0, 14, 42, 180, 0, 36, 154, 0, 7, 4, 167, 0, 4, 3, 172]
abbrev dktX3_isAtKerb_0 : List UInt8 := dkwX3_isAtKerb_0 ++ []
theorem dksX3_isAtKerb_0 : cX3_isAtKerb.data.toList.drop 0 = dktX3_isAtKerb_0 := by decide +kernel
theorem dX3_isAtKerb_0 : decode cX3_isAtKerb 0 = .ok (.aload_n 0, 1) := dk_42 (dk_at dksX3_isAtKerb_0 0 rfl rfl)
theorem dX3_isAtKerb_1 : decode cX3_isAtKerb 1 = .ok (.getfield 32, 3) := dk_180 0 32 (dk_at dksX3_isAtKerb_0 1 rfl rfl)
theorem dX3_isAtKerb_4 : decode cX3_isAtKerb 4 = .ok (.ifCond .ne 14, 3) := dk_154 0 14 (dk_at dksX3_isAtKerb_0 4 rfl rfl)
theorem dX3_isAtKerb_7 : decode cX3_isAtKerb 7 = .ok (.aload_n 0, 1) := dk_42 (dk_at dksX3_isAtKerb_0 7 rfl rfl)
theorem dX3_isAtKerb_8 : decode cX3_isAtKerb 8 = .ok (.getfield 36, 3) := dk_180 0 36 (dk_at dksX3_isAtKerb_0 8 rfl rfl)
theorem dX3_isAtKerb_11 : decode cX3_isAtKerb 11 = .ok (.ifCond .ne 7, 3) := dk_154 0 7 (dk_at dksX3_isAtKerb_0 11 rfl rfl)
theorem dX3_isAtKerb_14 : decode cX3_isAtKerb 14 = .ok (.iconst 1, 1) := dk_4 (dk_at dksX3_isAtKerb_0 14 rfl rfl)
theorem dX3_isAtKerb_15 : decode cX3_isAtKerb 15 = .ok (.goto 4, 3) := dk_167 0 4 (dk_at dksX3_isAtKerb_0 15 rfl rfl)
theorem dX3_isAtKerb_18 : decode cX3_isAtKerb 18 = .ok (.iconst 0, 1) := dk_3 (dk_at dksX3_isAtKerb_0 18 rfl rfl)
theorem dX3_isAtKerb_19 : decode cX3_isAtKerb 19 = .ok (.ireturn, 1) := dk_172 (dk_at dksX3_isAtKerb_0 19 rfl rfl)
abbrev cX3_moves : ByteArray := prog_19_method_14_code
def yX3_moves : MethodName := ⟨RX3, "moves", "(I)I"⟩
def dkwX3_moves_5 : List UInt8 := [182, 0, 136, 54, 4, 167, 255, 165, 28, 172]
abbrev dktX3_moves_5 : List UInt8 := dkwX3_moves_5 ++ []
def dkwX3_moves_4 : List UInt8 := [42, 180, 0, 21, 21, 4, 51, 153, 0, 15, 29, 42, 180, 0, 9, 21, 4, 46, 184, 0, 149, 62, 42, 27]
abbrev dktX3_moves_4 : List UInt8 := dkwX3_moves_4 ++ dktX3_moves_5
def dkwX3_moves_3 : List UInt8 := [167, 0, 9, 28, 21, 4, 184, 0, 143, 61, 167, 0, 36, 42, 180, 0, 18, 21, 4, 46, 5, 159, 0, 13]
abbrev dktX3_moves_3 : List UInt8 := dkwX3_moves_3 ++ dktX3_moves_4
def dkwX3_moves_2 : List UInt8 := [180, 0, 25, 21, 4, 4, 84, 42, 180, 0, 9, 21, 4, 46, 157, 0, 23, 28, 2, 160, 0, 8, 21, 4]
abbrev dktX3_moves_2 : List UInt8 := dkwX3_moves_2 ++ dktX3_moves_3
def dkwX3_moves_1 : List UInt8 := [61, 2, 62, 42, 27, 182, 0, 136, 54, 4, 21, 4, 2, 159, 0, 91, 42, 21, 4, 29, 182, 0, 139, 42]
abbrev dktX3_moves_1 : List UInt8 := dkwX3_moves_1 ++ dktX3_moves_2
def dkwX3_moves_0 : List UInt8 := [3, 61, 28, 42, 182, 0, 54, 162, 0, 16, 42, 180, 0, 25, 28, 3, 84, 132, 2, 1, 167, 255, 238, 2]
abbrev dktX3_moves_0 : List UInt8 := dkwX3_moves_0 ++ dktX3_moves_1
theorem dksX3_moves_0 : cX3_moves.data.toList.drop 0 = dktX3_moves_0 := by decide +kernel
theorem dksX3_moves_1 : cX3_moves.data.toList.drop 24 = dktX3_moves_1 := dk_seg dksX3_moves_0 24 rfl rfl
theorem dksX3_moves_2 : cX3_moves.data.toList.drop 48 = dktX3_moves_2 := dk_seg dksX3_moves_1 24 rfl rfl
theorem dksX3_moves_3 : cX3_moves.data.toList.drop 72 = dktX3_moves_3 := dk_seg dksX3_moves_2 24 rfl rfl
theorem dksX3_moves_4 : cX3_moves.data.toList.drop 96 = dktX3_moves_4 := dk_seg dksX3_moves_3 24 rfl rfl
theorem dksX3_moves_5 : cX3_moves.data.toList.drop 120 = dktX3_moves_5 := dk_seg dksX3_moves_4 24 rfl rfl
theorem dX3_moves_0 : decode cX3_moves 0 = .ok (.iconst 0, 1) := dk_3 (dk_at dksX3_moves_0 0 rfl rfl)
theorem dX3_moves_1 : decode cX3_moves 1 = .ok (.istore_n 2, 1) := dk_61 (dk_at dksX3_moves_0 1 rfl rfl)
theorem dX3_moves_2 : decode cX3_moves 2 = .ok (.iload_n 2, 1) := dk_28 (dk_at dksX3_moves_0 2 rfl rfl)
theorem dX3_moves_3 : decode cX3_moves 3 = .ok (.aload_n 0, 1) := dk_42 (dk_at dksX3_moves_0 3 rfl rfl)
theorem dX3_moves_4 : decode cX3_moves 4 = .ok (.invokevirtual 54, 3) := dk_182 0 54 (dk_at dksX3_moves_0 4 rfl rfl)
theorem dX3_moves_7 : decode cX3_moves 7 = .ok (.if_icmp .ge 16, 3) := dk_162 0 16 (dk_at dksX3_moves_0 7 rfl rfl)
theorem dX3_moves_10 : decode cX3_moves 10 = .ok (.aload_n 0, 1) := dk_42 (dk_at dksX3_moves_0 10 rfl rfl)
theorem dX3_moves_11 : decode cX3_moves 11 = .ok (.getfield 25, 3) := dk_180 0 25 (dk_at dksX3_moves_0 11 rfl rfl)
theorem dX3_moves_14 : decode cX3_moves 14 = .ok (.iload_n 2, 1) := dk_28 (dk_at dksX3_moves_0 14 rfl rfl)
theorem dX3_moves_15 : decode cX3_moves 15 = .ok (.iconst 0, 1) := dk_3 (dk_at dksX3_moves_0 15 rfl rfl)
theorem dX3_moves_16 : decode cX3_moves 16 = .ok (.bastore, 1) := dk_84 (dk_at dksX3_moves_0 16 rfl rfl)
theorem dX3_moves_17 : decode cX3_moves 17 = .ok (.iinc 2 1, 3) := dk_132 2 1 (dk_at dksX3_moves_0 17 rfl rfl)
theorem dX3_moves_20 : decode cX3_moves 20 = .ok (.goto (-18), 3) := dk_167 255 238 (dk_at dksX3_moves_0 20 rfl rfl)
theorem dX3_moves_23 : decode cX3_moves 23 = .ok (.iconst (-1), 1) := dk_2 (dk_at dksX3_moves_0 23 rfl rfl)
theorem dX3_moves_24 : decode cX3_moves 24 = .ok (.istore_n 2, 1) := dk_61 (dk_at dksX3_moves_1 0 rfl rfl)
theorem dX3_moves_25 : decode cX3_moves 25 = .ok (.iconst (-1), 1) := dk_2 (dk_at dksX3_moves_1 1 rfl rfl)
theorem dX3_moves_26 : decode cX3_moves 26 = .ok (.istore_n 3, 1) := dk_62 (dk_at dksX3_moves_1 2 rfl rfl)
theorem dX3_moves_27 : decode cX3_moves 27 = .ok (.aload_n 0, 1) := dk_42 (dk_at dksX3_moves_1 3 rfl rfl)
theorem dX3_moves_28 : decode cX3_moves 28 = .ok (.iload_n 1, 1) := dk_27 (dk_at dksX3_moves_1 4 rfl rfl)
theorem dX3_moves_29 : decode cX3_moves 29 = .ok (.invokevirtual 136, 3) := dk_182 0 136 (dk_at dksX3_moves_1 5 rfl rfl)
theorem dX3_moves_32 : decode cX3_moves 32 = .ok (.istore 4, 2) := dk_54 4 (dk_at dksX3_moves_1 8 rfl rfl)
theorem dX3_moves_34 : decode cX3_moves 34 = .ok (.iload 4, 2) := dk_21 4 (dk_at dksX3_moves_1 10 rfl rfl)
theorem dX3_moves_36 : decode cX3_moves 36 = .ok (.iconst (-1), 1) := dk_2 (dk_at dksX3_moves_1 12 rfl rfl)
theorem dX3_moves_37 : decode cX3_moves 37 = .ok (.if_icmp .eq 91, 3) := dk_159 0 91 (dk_at dksX3_moves_1 13 rfl rfl)
theorem dX3_moves_40 : decode cX3_moves 40 = .ok (.aload_n 0, 1) := dk_42 (dk_at dksX3_moves_1 16 rfl rfl)
theorem dX3_moves_41 : decode cX3_moves 41 = .ok (.iload 4, 2) := dk_21 4 (dk_at dksX3_moves_1 17 rfl rfl)
theorem dX3_moves_43 : decode cX3_moves 43 = .ok (.iload_n 3, 1) := dk_29 (dk_at dksX3_moves_1 19 rfl rfl)
theorem dX3_moves_44 : decode cX3_moves 44 = .ok (.invokevirtual 139, 3) := dk_182 0 139 (dk_at dksX3_moves_1 20 rfl rfl)
theorem dX3_moves_47 : decode cX3_moves 47 = .ok (.aload_n 0, 1) := dk_42 (dk_at dksX3_moves_1 23 rfl rfl)
theorem dX3_moves_48 : decode cX3_moves 48 = .ok (.getfield 25, 3) := dk_180 0 25 (dk_at dksX3_moves_2 0 rfl rfl)
theorem dX3_moves_51 : decode cX3_moves 51 = .ok (.iload 4, 2) := dk_21 4 (dk_at dksX3_moves_2 3 rfl rfl)
theorem dX3_moves_53 : decode cX3_moves 53 = .ok (.iconst 1, 1) := dk_4 (dk_at dksX3_moves_2 5 rfl rfl)
theorem dX3_moves_54 : decode cX3_moves 54 = .ok (.bastore, 1) := dk_84 (dk_at dksX3_moves_2 6 rfl rfl)
theorem dX3_moves_55 : decode cX3_moves 55 = .ok (.aload_n 0, 1) := dk_42 (dk_at dksX3_moves_2 7 rfl rfl)
theorem dX3_moves_56 : decode cX3_moves 56 = .ok (.getfield 9, 3) := dk_180 0 9 (dk_at dksX3_moves_2 8 rfl rfl)
theorem dX3_moves_59 : decode cX3_moves 59 = .ok (.iload 4, 2) := dk_21 4 (dk_at dksX3_moves_2 11 rfl rfl)
theorem dX3_moves_61 : decode cX3_moves 61 = .ok (.iaload, 1) := dk_46 (dk_at dksX3_moves_2 13 rfl rfl)
theorem dX3_moves_62 : decode cX3_moves 62 = .ok (.ifCond .gt 23, 3) := dk_157 0 23 (dk_at dksX3_moves_2 14 rfl rfl)
theorem dX3_moves_65 : decode cX3_moves 65 = .ok (.iload_n 2, 1) := dk_28 (dk_at dksX3_moves_2 17 rfl rfl)
theorem dX3_moves_66 : decode cX3_moves 66 = .ok (.iconst (-1), 1) := dk_2 (dk_at dksX3_moves_2 18 rfl rfl)
theorem dX3_moves_67 : decode cX3_moves 67 = .ok (.if_icmp .ne 8, 3) := dk_160 0 8 (dk_at dksX3_moves_2 19 rfl rfl)
theorem dX3_moves_70 : decode cX3_moves 70 = .ok (.iload 4, 2) := dk_21 4 (dk_at dksX3_moves_2 22 rfl rfl)
theorem dX3_moves_72 : decode cX3_moves 72 = .ok (.goto 9, 3) := dk_167 0 9 (dk_at dksX3_moves_3 0 rfl rfl)
theorem dX3_moves_75 : decode cX3_moves 75 = .ok (.iload_n 2, 1) := dk_28 (dk_at dksX3_moves_3 3 rfl rfl)
theorem dX3_moves_76 : decode cX3_moves 76 = .ok (.iload 4, 2) := dk_21 4 (dk_at dksX3_moves_3 4 rfl rfl)
theorem dX3_moves_78 : decode cX3_moves 78 = .ok (.invokestatic 143, 3) := dk_184 0 143 (dk_at dksX3_moves_3 6 rfl rfl)
theorem dX3_moves_81 : decode cX3_moves 81 = .ok (.istore_n 2, 1) := dk_61 (dk_at dksX3_moves_3 9 rfl rfl)
theorem dX3_moves_82 : decode cX3_moves 82 = .ok (.goto 36, 3) := dk_167 0 36 (dk_at dksX3_moves_3 10 rfl rfl)
theorem dX3_moves_85 : decode cX3_moves 85 = .ok (.aload_n 0, 1) := dk_42 (dk_at dksX3_moves_3 13 rfl rfl)
theorem dX3_moves_86 : decode cX3_moves 86 = .ok (.getfield 18, 3) := dk_180 0 18 (dk_at dksX3_moves_3 14 rfl rfl)
theorem dX3_moves_89 : decode cX3_moves 89 = .ok (.iload 4, 2) := dk_21 4 (dk_at dksX3_moves_3 17 rfl rfl)
theorem dX3_moves_91 : decode cX3_moves 91 = .ok (.iaload, 1) := dk_46 (dk_at dksX3_moves_3 19 rfl rfl)
theorem dX3_moves_92 : decode cX3_moves 92 = .ok (.iconst 2, 1) := dk_5 (dk_at dksX3_moves_3 20 rfl rfl)
theorem dX3_moves_93 : decode cX3_moves 93 = .ok (.if_icmp .eq 13, 3) := dk_159 0 13 (dk_at dksX3_moves_3 21 rfl rfl)
theorem dX3_moves_96 : decode cX3_moves 96 = .ok (.aload_n 0, 1) := dk_42 (dk_at dksX3_moves_4 0 rfl rfl)
theorem dX3_moves_97 : decode cX3_moves 97 = .ok (.getfield 21, 3) := dk_180 0 21 (dk_at dksX3_moves_4 1 rfl rfl)
theorem dX3_moves_100 : decode cX3_moves 100 = .ok (.iload 4, 2) := dk_21 4 (dk_at dksX3_moves_4 4 rfl rfl)
theorem dX3_moves_102 : decode cX3_moves 102 = .ok (.baload, 1) := dk_51 (dk_at dksX3_moves_4 6 rfl rfl)
theorem dX3_moves_103 : decode cX3_moves 103 = .ok (.ifCond .eq 15, 3) := dk_153 0 15 (dk_at dksX3_moves_4 7 rfl rfl)
theorem dX3_moves_106 : decode cX3_moves 106 = .ok (.iload_n 3, 1) := dk_29 (dk_at dksX3_moves_4 10 rfl rfl)
theorem dX3_moves_107 : decode cX3_moves 107 = .ok (.aload_n 0, 1) := dk_42 (dk_at dksX3_moves_4 11 rfl rfl)
theorem dX3_moves_108 : decode cX3_moves 108 = .ok (.getfield 9, 3) := dk_180 0 9 (dk_at dksX3_moves_4 12 rfl rfl)
theorem dX3_moves_111 : decode cX3_moves 111 = .ok (.iload 4, 2) := dk_21 4 (dk_at dksX3_moves_4 15 rfl rfl)
theorem dX3_moves_113 : decode cX3_moves 113 = .ok (.iaload, 1) := dk_46 (dk_at dksX3_moves_4 17 rfl rfl)
theorem dX3_moves_114 : decode cX3_moves 114 = .ok (.invokestatic 149, 3) := dk_184 0 149 (dk_at dksX3_moves_4 18 rfl rfl)
theorem dX3_moves_117 : decode cX3_moves 117 = .ok (.istore_n 3, 1) := dk_62 (dk_at dksX3_moves_4 21 rfl rfl)
theorem dX3_moves_118 : decode cX3_moves 118 = .ok (.aload_n 0, 1) := dk_42 (dk_at dksX3_moves_4 22 rfl rfl)
theorem dX3_moves_119 : decode cX3_moves 119 = .ok (.iload_n 1, 1) := dk_27 (dk_at dksX3_moves_4 23 rfl rfl)
theorem dX3_moves_120 : decode cX3_moves 120 = .ok (.invokevirtual 136, 3) := dk_182 0 136 (dk_at dksX3_moves_5 0 rfl rfl)
theorem dX3_moves_123 : decode cX3_moves 123 = .ok (.istore 4, 2) := dk_54 4 (dk_at dksX3_moves_5 3 rfl rfl)
theorem dX3_moves_125 : decode cX3_moves 125 = .ok (.goto (-91), 3) := dk_167 255 165 (dk_at dksX3_moves_5 5 rfl rfl)
theorem dX3_moves_128 : decode cX3_moves 128 = .ok (.iload_n 2, 1) := dk_28 (dk_at dksX3_moves_5 8 rfl rfl)
theorem dX3_moves_129 : decode cX3_moves 129 = .ok (.ireturn, 1) := dk_172 (dk_at dksX3_moves_5 9 rfl rfl)
abbrev cX3_nearest : ByteArray := prog_19_method_13_code
def yX3_nearest : MethodName := ⟨RX3, "nearest", "(I)I"⟩
def dkwX3_nearest_2 : List UInt8 := [180, 0, 9, 29, 46, 42, 180, 0, 9, 28, 46, 162, 0, 5, 29, 61, 132, 3, 1, 167, 255, 193, 28, 172]
abbrev dktX3_nearest_2 : List UInt8 := dkwX3_nearest_2 ++ []
def dkwX3_nearest_1 : List UInt8 := [42, 180, 0, 25, 29, 51, 154, 0, 34, 42, 180, 0, 9, 29, 46, 158, 0, 25, 28, 2, 159, 0, 18, 42]
abbrev dktX3_nearest_1 : List UInt8 := dkwX3_nearest_1 ++ dktX3_nearest_2
def dkwX3_nearest_0 : List UInt8 := [2, 61, 3, 62, 29, 42, 182, 0, 54, 162, 0, 61, 42, 29, 182, 0, 58, 180, 0, 94, 27, 160, 0, 43]
abbrev dktX3_nearest_0 : List UInt8 := dkwX3_nearest_0 ++ dktX3_nearest_1
theorem dksX3_nearest_0 : cX3_nearest.data.toList.drop 0 = dktX3_nearest_0 := by decide +kernel
theorem dksX3_nearest_1 : cX3_nearest.data.toList.drop 24 = dktX3_nearest_1 := dk_seg dksX3_nearest_0 24 rfl rfl
theorem dksX3_nearest_2 : cX3_nearest.data.toList.drop 48 = dktX3_nearest_2 := dk_seg dksX3_nearest_1 24 rfl rfl
theorem dX3_nearest_0 : decode cX3_nearest 0 = .ok (.iconst (-1), 1) := dk_2 (dk_at dksX3_nearest_0 0 rfl rfl)
theorem dX3_nearest_1 : decode cX3_nearest 1 = .ok (.istore_n 2, 1) := dk_61 (dk_at dksX3_nearest_0 1 rfl rfl)
theorem dX3_nearest_2 : decode cX3_nearest 2 = .ok (.iconst 0, 1) := dk_3 (dk_at dksX3_nearest_0 2 rfl rfl)
theorem dX3_nearest_3 : decode cX3_nearest 3 = .ok (.istore_n 3, 1) := dk_62 (dk_at dksX3_nearest_0 3 rfl rfl)
theorem dX3_nearest_4 : decode cX3_nearest 4 = .ok (.iload_n 3, 1) := dk_29 (dk_at dksX3_nearest_0 4 rfl rfl)
theorem dX3_nearest_5 : decode cX3_nearest 5 = .ok (.aload_n 0, 1) := dk_42 (dk_at dksX3_nearest_0 5 rfl rfl)
theorem dX3_nearest_6 : decode cX3_nearest 6 = .ok (.invokevirtual 54, 3) := dk_182 0 54 (dk_at dksX3_nearest_0 6 rfl rfl)
theorem dX3_nearest_9 : decode cX3_nearest 9 = .ok (.if_icmp .ge 61, 3) := dk_162 0 61 (dk_at dksX3_nearest_0 9 rfl rfl)
theorem dX3_nearest_12 : decode cX3_nearest 12 = .ok (.aload_n 0, 1) := dk_42 (dk_at dksX3_nearest_0 12 rfl rfl)
theorem dX3_nearest_13 : decode cX3_nearest 13 = .ok (.iload_n 3, 1) := dk_29 (dk_at dksX3_nearest_0 13 rfl rfl)
theorem dX3_nearest_14 : decode cX3_nearest 14 = .ok (.invokevirtual 58, 3) := dk_182 0 58 (dk_at dksX3_nearest_0 14 rfl rfl)
theorem dX3_nearest_17 : decode cX3_nearest 17 = .ok (.getfield 94, 3) := dk_180 0 94 (dk_at dksX3_nearest_0 17 rfl rfl)
theorem dX3_nearest_20 : decode cX3_nearest 20 = .ok (.iload_n 1, 1) := dk_27 (dk_at dksX3_nearest_0 20 rfl rfl)
theorem dX3_nearest_21 : decode cX3_nearest 21 = .ok (.if_icmp .ne 43, 3) := dk_160 0 43 (dk_at dksX3_nearest_0 21 rfl rfl)
theorem dX3_nearest_24 : decode cX3_nearest 24 = .ok (.aload_n 0, 1) := dk_42 (dk_at dksX3_nearest_1 0 rfl rfl)
theorem dX3_nearest_25 : decode cX3_nearest 25 = .ok (.getfield 25, 3) := dk_180 0 25 (dk_at dksX3_nearest_1 1 rfl rfl)
theorem dX3_nearest_28 : decode cX3_nearest 28 = .ok (.iload_n 3, 1) := dk_29 (dk_at dksX3_nearest_1 4 rfl rfl)
theorem dX3_nearest_29 : decode cX3_nearest 29 = .ok (.baload, 1) := dk_51 (dk_at dksX3_nearest_1 5 rfl rfl)
theorem dX3_nearest_30 : decode cX3_nearest 30 = .ok (.ifCond .ne 34, 3) := dk_154 0 34 (dk_at dksX3_nearest_1 6 rfl rfl)
theorem dX3_nearest_33 : decode cX3_nearest 33 = .ok (.aload_n 0, 1) := dk_42 (dk_at dksX3_nearest_1 9 rfl rfl)
theorem dX3_nearest_34 : decode cX3_nearest 34 = .ok (.getfield 9, 3) := dk_180 0 9 (dk_at dksX3_nearest_1 10 rfl rfl)
theorem dX3_nearest_37 : decode cX3_nearest 37 = .ok (.iload_n 3, 1) := dk_29 (dk_at dksX3_nearest_1 13 rfl rfl)
theorem dX3_nearest_38 : decode cX3_nearest 38 = .ok (.iaload, 1) := dk_46 (dk_at dksX3_nearest_1 14 rfl rfl)
theorem dX3_nearest_39 : decode cX3_nearest 39 = .ok (.ifCond .le 25, 3) := dk_158 0 25 (dk_at dksX3_nearest_1 15 rfl rfl)
theorem dX3_nearest_42 : decode cX3_nearest 42 = .ok (.iload_n 2, 1) := dk_28 (dk_at dksX3_nearest_1 18 rfl rfl)
theorem dX3_nearest_43 : decode cX3_nearest 43 = .ok (.iconst (-1), 1) := dk_2 (dk_at dksX3_nearest_1 19 rfl rfl)
theorem dX3_nearest_44 : decode cX3_nearest 44 = .ok (.if_icmp .eq 18, 3) := dk_159 0 18 (dk_at dksX3_nearest_1 20 rfl rfl)
theorem dX3_nearest_47 : decode cX3_nearest 47 = .ok (.aload_n 0, 1) := dk_42 (dk_at dksX3_nearest_1 23 rfl rfl)
theorem dX3_nearest_48 : decode cX3_nearest 48 = .ok (.getfield 9, 3) := dk_180 0 9 (dk_at dksX3_nearest_2 0 rfl rfl)
theorem dX3_nearest_51 : decode cX3_nearest 51 = .ok (.iload_n 3, 1) := dk_29 (dk_at dksX3_nearest_2 3 rfl rfl)
theorem dX3_nearest_52 : decode cX3_nearest 52 = .ok (.iaload, 1) := dk_46 (dk_at dksX3_nearest_2 4 rfl rfl)
theorem dX3_nearest_53 : decode cX3_nearest 53 = .ok (.aload_n 0, 1) := dk_42 (dk_at dksX3_nearest_2 5 rfl rfl)
theorem dX3_nearest_54 : decode cX3_nearest 54 = .ok (.getfield 9, 3) := dk_180 0 9 (dk_at dksX3_nearest_2 6 rfl rfl)
theorem dX3_nearest_57 : decode cX3_nearest 57 = .ok (.iload_n 2, 1) := dk_28 (dk_at dksX3_nearest_2 9 rfl rfl)
theorem dX3_nearest_58 : decode cX3_nearest 58 = .ok (.iaload, 1) := dk_46 (dk_at dksX3_nearest_2 10 rfl rfl)
theorem dX3_nearest_59 : decode cX3_nearest 59 = .ok (.if_icmp .ge 5, 3) := dk_162 0 5 (dk_at dksX3_nearest_2 11 rfl rfl)
theorem dX3_nearest_62 : decode cX3_nearest 62 = .ok (.iload_n 3, 1) := dk_29 (dk_at dksX3_nearest_2 14 rfl rfl)
theorem dX3_nearest_63 : decode cX3_nearest 63 = .ok (.istore_n 2, 1) := dk_61 (dk_at dksX3_nearest_2 15 rfl rfl)
theorem dX3_nearest_64 : decode cX3_nearest 64 = .ok (.iinc 3 1, 3) := dk_132 3 1 (dk_at dksX3_nearest_2 16 rfl rfl)
theorem dX3_nearest_67 : decode cX3_nearest 67 = .ok (.goto (-63), 3) := dk_167 255 193 (dk_at dksX3_nearest_2 19 rfl rfl)
theorem dX3_nearest_70 : decode cX3_nearest 70 = .ok (.iload_n 2, 1) := dk_28 (dk_at dksX3_nearest_2 22 rfl rfl)
theorem dX3_nearest_71 : decode cX3_nearest 71 = .ok (.ireturn, 1) := dk_172 (dk_at dksX3_nearest_2 23 rfl rfl)
abbrev cX3_goes : ByteArray := prog_19_method_15_code
def yX3_goes : MethodName := ⟨RX3, "goes", "(II)V"⟩
def dkwX3_goes_4 : List UInt8 := [29, 164, 0, 7, 4, 167, 0, 4, 3, 84, 42, 180, 0, 9, 27, 29, 21, 4, 184, 0, 149, 79, 177]
abbrev dktX3_goes_4 : List UInt8 := dkwX3_goes_4 ++ []
def dkwX3_goes_3 : List UInt8 := [167, 0, 15, 42, 180, 0, 9, 27, 46, 28, 5, 96, 184, 0, 143, 54, 4, 42, 180, 0, 21, 27, 21, 4]
abbrev dktX3_goes_3 : List UInt8 := dkwX3_goes_3 ++ dktX3_goes_4
def dkwX3_goes_2 : List UInt8 := [100, 79, 177, 42, 180, 0, 9, 27, 46, 42, 180, 0, 15, 27, 46, 100, 62, 28, 2, 160, 0, 7, 29]
abbrev dktX3_goes_2 : List UInt8 := dkwX3_goes_2 ++ dktX3_goes_3
def dkwX3_goes_1 : List UInt8 := [180, 0, 15, 27, 46, 4, 100, 184, 0, 149, 79, 42, 180, 0, 9, 27, 92, 46, 42, 180, 0, 15, 27, 46]
abbrev dktX3_goes_1 : List UInt8 := dkwX3_goes_1 ++ dktX3_goes_2
def dkwX3_goes_0 : List UInt8 := [42, 180, 0, 21, 27, 3, 84, 42, 180, 0, 18, 27, 46, 5, 160, 0, 37, 42, 180, 0, 15, 27, 3, 42]
abbrev dktX3_goes_0 : List UInt8 := dkwX3_goes_0 ++ dktX3_goes_1
theorem dksX3_goes_0 : cX3_goes.data.toList.drop 0 = dktX3_goes_0 := by decide +kernel
theorem dksX3_goes_1 : cX3_goes.data.toList.drop 24 = dktX3_goes_1 := dk_seg dksX3_goes_0 24 rfl rfl
theorem dksX3_goes_2 : cX3_goes.data.toList.drop 48 = dktX3_goes_2 := dk_seg dksX3_goes_1 24 rfl rfl
theorem dksX3_goes_3 : cX3_goes.data.toList.drop 71 = dktX3_goes_3 := dk_seg dksX3_goes_2 23 rfl rfl
theorem dksX3_goes_4 : cX3_goes.data.toList.drop 95 = dktX3_goes_4 := dk_seg dksX3_goes_3 24 rfl rfl
theorem dX3_goes_0 : decode cX3_goes 0 = .ok (.aload_n 0, 1) := dk_42 (dk_at dksX3_goes_0 0 rfl rfl)
theorem dX3_goes_1 : decode cX3_goes 1 = .ok (.getfield 21, 3) := dk_180 0 21 (dk_at dksX3_goes_0 1 rfl rfl)
theorem dX3_goes_4 : decode cX3_goes 4 = .ok (.iload_n 1, 1) := dk_27 (dk_at dksX3_goes_0 4 rfl rfl)
theorem dX3_goes_5 : decode cX3_goes 5 = .ok (.iconst 0, 1) := dk_3 (dk_at dksX3_goes_0 5 rfl rfl)
theorem dX3_goes_6 : decode cX3_goes 6 = .ok (.bastore, 1) := dk_84 (dk_at dksX3_goes_0 6 rfl rfl)
theorem dX3_goes_7 : decode cX3_goes 7 = .ok (.aload_n 0, 1) := dk_42 (dk_at dksX3_goes_0 7 rfl rfl)
theorem dX3_goes_8 : decode cX3_goes 8 = .ok (.getfield 18, 3) := dk_180 0 18 (dk_at dksX3_goes_0 8 rfl rfl)
theorem dX3_goes_11 : decode cX3_goes 11 = .ok (.iload_n 1, 1) := dk_27 (dk_at dksX3_goes_0 11 rfl rfl)
theorem dX3_goes_12 : decode cX3_goes 12 = .ok (.iaload, 1) := dk_46 (dk_at dksX3_goes_0 12 rfl rfl)
theorem dX3_goes_13 : decode cX3_goes 13 = .ok (.iconst 2, 1) := dk_5 (dk_at dksX3_goes_0 13 rfl rfl)
theorem dX3_goes_14 : decode cX3_goes 14 = .ok (.if_icmp .ne 37, 3) := dk_160 0 37 (dk_at dksX3_goes_0 14 rfl rfl)
theorem dX3_goes_17 : decode cX3_goes 17 = .ok (.aload_n 0, 1) := dk_42 (dk_at dksX3_goes_0 17 rfl rfl)
theorem dX3_goes_18 : decode cX3_goes 18 = .ok (.getfield 15, 3) := dk_180 0 15 (dk_at dksX3_goes_0 18 rfl rfl)
theorem dX3_goes_21 : decode cX3_goes 21 = .ok (.iload_n 1, 1) := dk_27 (dk_at dksX3_goes_0 21 rfl rfl)
theorem dX3_goes_22 : decode cX3_goes 22 = .ok (.iconst 0, 1) := dk_3 (dk_at dksX3_goes_0 22 rfl rfl)
theorem dX3_goes_23 : decode cX3_goes 23 = .ok (.aload_n 0, 1) := dk_42 (dk_at dksX3_goes_0 23 rfl rfl)
theorem dX3_goes_24 : decode cX3_goes 24 = .ok (.getfield 15, 3) := dk_180 0 15 (dk_at dksX3_goes_1 0 rfl rfl)
theorem dX3_goes_27 : decode cX3_goes 27 = .ok (.iload_n 1, 1) := dk_27 (dk_at dksX3_goes_1 3 rfl rfl)
theorem dX3_goes_28 : decode cX3_goes 28 = .ok (.iaload, 1) := dk_46 (dk_at dksX3_goes_1 4 rfl rfl)
theorem dX3_goes_29 : decode cX3_goes 29 = .ok (.iconst 1, 1) := dk_4 (dk_at dksX3_goes_1 5 rfl rfl)
theorem dX3_goes_30 : decode cX3_goes 30 = .ok (.isub, 1) := dk_100 (dk_at dksX3_goes_1 6 rfl rfl)
theorem dX3_goes_31 : decode cX3_goes 31 = .ok (.invokestatic 149, 3) := dk_184 0 149 (dk_at dksX3_goes_1 7 rfl rfl)
theorem dX3_goes_34 : decode cX3_goes 34 = .ok (.iastore, 1) := dk_79 (dk_at dksX3_goes_1 10 rfl rfl)
theorem dX3_goes_35 : decode cX3_goes 35 = .ok (.aload_n 0, 1) := dk_42 (dk_at dksX3_goes_1 11 rfl rfl)
theorem dX3_goes_36 : decode cX3_goes 36 = .ok (.getfield 9, 3) := dk_180 0 9 (dk_at dksX3_goes_1 12 rfl rfl)
theorem dX3_goes_39 : decode cX3_goes 39 = .ok (.iload_n 1, 1) := dk_27 (dk_at dksX3_goes_1 15 rfl rfl)
theorem dX3_goes_40 : decode cX3_goes 40 = .ok (.dup2, 1) := dk_92 (dk_at dksX3_goes_1 16 rfl rfl)
theorem dX3_goes_41 : decode cX3_goes 41 = .ok (.iaload, 1) := dk_46 (dk_at dksX3_goes_1 17 rfl rfl)
theorem dX3_goes_42 : decode cX3_goes 42 = .ok (.aload_n 0, 1) := dk_42 (dk_at dksX3_goes_1 18 rfl rfl)
theorem dX3_goes_43 : decode cX3_goes 43 = .ok (.getfield 15, 3) := dk_180 0 15 (dk_at dksX3_goes_1 19 rfl rfl)
theorem dX3_goes_46 : decode cX3_goes 46 = .ok (.iload_n 1, 1) := dk_27 (dk_at dksX3_goes_1 22 rfl rfl)
theorem dX3_goes_47 : decode cX3_goes 47 = .ok (.iaload, 1) := dk_46 (dk_at dksX3_goes_1 23 rfl rfl)
theorem dX3_goes_48 : decode cX3_goes 48 = .ok (.isub, 1) := dk_100 (dk_at dksX3_goes_2 0 rfl rfl)
theorem dX3_goes_49 : decode cX3_goes 49 = .ok (.iastore, 1) := dk_79 (dk_at dksX3_goes_2 1 rfl rfl)
theorem dX3_goes_50 : decode cX3_goes 50 = .ok (.return_, 1) := dk_177 (dk_at dksX3_goes_2 2 rfl rfl)
theorem dX3_goes_51 : decode cX3_goes 51 = .ok (.aload_n 0, 1) := dk_42 (dk_at dksX3_goes_2 3 rfl rfl)
theorem dX3_goes_52 : decode cX3_goes 52 = .ok (.getfield 9, 3) := dk_180 0 9 (dk_at dksX3_goes_2 4 rfl rfl)
theorem dX3_goes_55 : decode cX3_goes 55 = .ok (.iload_n 1, 1) := dk_27 (dk_at dksX3_goes_2 7 rfl rfl)
theorem dX3_goes_56 : decode cX3_goes 56 = .ok (.iaload, 1) := dk_46 (dk_at dksX3_goes_2 8 rfl rfl)
theorem dX3_goes_57 : decode cX3_goes 57 = .ok (.aload_n 0, 1) := dk_42 (dk_at dksX3_goes_2 9 rfl rfl)
theorem dX3_goes_58 : decode cX3_goes 58 = .ok (.getfield 15, 3) := dk_180 0 15 (dk_at dksX3_goes_2 10 rfl rfl)
theorem dX3_goes_61 : decode cX3_goes 61 = .ok (.iload_n 1, 1) := dk_27 (dk_at dksX3_goes_2 13 rfl rfl)
theorem dX3_goes_62 : decode cX3_goes 62 = .ok (.iaload, 1) := dk_46 (dk_at dksX3_goes_2 14 rfl rfl)
theorem dX3_goes_63 : decode cX3_goes 63 = .ok (.isub, 1) := dk_100 (dk_at dksX3_goes_2 15 rfl rfl)
theorem dX3_goes_64 : decode cX3_goes 64 = .ok (.istore_n 3, 1) := dk_62 (dk_at dksX3_goes_2 16 rfl rfl)
theorem dX3_goes_65 : decode cX3_goes 65 = .ok (.iload_n 2, 1) := dk_28 (dk_at dksX3_goes_2 17 rfl rfl)
theorem dX3_goes_66 : decode cX3_goes 66 = .ok (.iconst (-1), 1) := dk_2 (dk_at dksX3_goes_2 18 rfl rfl)
theorem dX3_goes_67 : decode cX3_goes 67 = .ok (.if_icmp .ne 7, 3) := dk_160 0 7 (dk_at dksX3_goes_2 19 rfl rfl)
theorem dX3_goes_70 : decode cX3_goes 70 = .ok (.iload_n 3, 1) := dk_29 (dk_at dksX3_goes_2 22 rfl rfl)
theorem dX3_goes_71 : decode cX3_goes 71 = .ok (.goto 15, 3) := dk_167 0 15 (dk_at dksX3_goes_3 0 rfl rfl)
theorem dX3_goes_74 : decode cX3_goes 74 = .ok (.aload_n 0, 1) := dk_42 (dk_at dksX3_goes_3 3 rfl rfl)
theorem dX3_goes_75 : decode cX3_goes 75 = .ok (.getfield 9, 3) := dk_180 0 9 (dk_at dksX3_goes_3 4 rfl rfl)
theorem dX3_goes_78 : decode cX3_goes 78 = .ok (.iload_n 1, 1) := dk_27 (dk_at dksX3_goes_3 7 rfl rfl)
theorem dX3_goes_79 : decode cX3_goes 79 = .ok (.iaload, 1) := dk_46 (dk_at dksX3_goes_3 8 rfl rfl)
theorem dX3_goes_80 : decode cX3_goes 80 = .ok (.iload_n 2, 1) := dk_28 (dk_at dksX3_goes_3 9 rfl rfl)
theorem dX3_goes_81 : decode cX3_goes 81 = .ok (.iconst 2, 1) := dk_5 (dk_at dksX3_goes_3 10 rfl rfl)
theorem dX3_goes_82 : decode cX3_goes 82 = .ok (.iadd, 1) := dk_96 (dk_at dksX3_goes_3 11 rfl rfl)
theorem dX3_goes_83 : decode cX3_goes 83 = .ok (.invokestatic 143, 3) := dk_184 0 143 (dk_at dksX3_goes_3 12 rfl rfl)
theorem dX3_goes_86 : decode cX3_goes 86 = .ok (.istore 4, 2) := dk_54 4 (dk_at dksX3_goes_3 15 rfl rfl)
theorem dX3_goes_88 : decode cX3_goes 88 = .ok (.aload_n 0, 1) := dk_42 (dk_at dksX3_goes_3 17 rfl rfl)
theorem dX3_goes_89 : decode cX3_goes 89 = .ok (.getfield 21, 3) := dk_180 0 21 (dk_at dksX3_goes_3 18 rfl rfl)
theorem dX3_goes_92 : decode cX3_goes 92 = .ok (.iload_n 1, 1) := dk_27 (dk_at dksX3_goes_3 21 rfl rfl)
theorem dX3_goes_93 : decode cX3_goes 93 = .ok (.iload 4, 2) := dk_21 4 (dk_at dksX3_goes_3 22 rfl rfl)
theorem dX3_goes_95 : decode cX3_goes 95 = .ok (.iload_n 3, 1) := dk_29 (dk_at dksX3_goes_4 0 rfl rfl)
theorem dX3_goes_96 : decode cX3_goes 96 = .ok (.if_icmp .le 7, 3) := dk_164 0 7 (dk_at dksX3_goes_4 1 rfl rfl)
theorem dX3_goes_99 : decode cX3_goes 99 = .ok (.iconst 1, 1) := dk_4 (dk_at dksX3_goes_4 4 rfl rfl)
theorem dX3_goes_100 : decode cX3_goes 100 = .ok (.goto 4, 3) := dk_167 0 4 (dk_at dksX3_goes_4 5 rfl rfl)
theorem dX3_goes_103 : decode cX3_goes 103 = .ok (.iconst 0, 1) := dk_3 (dk_at dksX3_goes_4 8 rfl rfl)
theorem dX3_goes_104 : decode cX3_goes 104 = .ok (.bastore, 1) := dk_84 (dk_at dksX3_goes_4 9 rfl rfl)
theorem dX3_goes_105 : decode cX3_goes 105 = .ok (.aload_n 0, 1) := dk_42 (dk_at dksX3_goes_4 10 rfl rfl)
theorem dX3_goes_106 : decode cX3_goes 106 = .ok (.getfield 9, 3) := dk_180 0 9 (dk_at dksX3_goes_4 11 rfl rfl)
theorem dX3_goes_109 : decode cX3_goes 109 = .ok (.iload_n 1, 1) := dk_27 (dk_at dksX3_goes_4 14 rfl rfl)
theorem dX3_goes_110 : decode cX3_goes 110 = .ok (.iload_n 3, 1) := dk_29 (dk_at dksX3_goes_4 15 rfl rfl)
theorem dX3_goes_111 : decode cX3_goes 111 = .ok (.iload 4, 2) := dk_21 4 (dk_at dksX3_goes_4 16 rfl rfl)
theorem dX3_goes_113 : decode cX3_goes 113 = .ok (.invokestatic 149, 3) := dk_184 0 149 (dk_at dksX3_goes_4 18 rfl rfl)
theorem dX3_goes_116 : decode cX3_goes 116 = .ok (.iastore, 1) := dk_79 (dk_at dksX3_goes_4 21 rfl rfl)
theorem dX3_goes_117 : decode cX3_goes 117 = .ok (.return_, 1) := dk_177 (dk_at dksX3_goes_4 22 rfl rfl)
abbrev cX3_crosses : ByteArray := prog_19_method_12_code
def yX3_crosses : MethodName := ⟨RX3, "crosses", "(I)V"⟩
def dkwX3_crosses_4 : List UInt8 := [180, 0, 126, 160, 0, 8, 42, 4, 181, 0, 45, 177]
abbrev dktX3_crosses_4 : List UInt8 := dkwX3_crosses_4 ++ []
def dkwX3_crosses_3 : List UInt8 := [180, 0, 36, 154, 0, 7, 4, 167, 0, 4, 3, 96, 181, 0, 32, 42, 180, 0, 32, 42, 180, 0, 28]
abbrev dktX3_crosses_3 : List UInt8 := dkwX3_crosses_3 ++ dktX3_crosses_4
def dkwX3_crosses_2 : List UInt8 := [4, 104, 181, 0, 51, 177, 42, 89, 180, 0, 36, 4, 100, 181, 0, 36, 42, 89, 180, 0, 32, 42]
abbrev dktX3_crosses_2 : List UInt8 := dkwX3_crosses_2 ++ dktX3_crosses_3
def dkwX3_crosses_1 : List UInt8 := [180, 0, 15, 27, 46, 104, 42, 180, 0, 28, 180, 0, 119, 3, 184, 0, 122, 153, 0, 7, 5, 167, 0, 4]
abbrev dktX3_crosses_1 : List UInt8 := dkwX3_crosses_1 ++ dktX3_crosses_2
def dkwX3_crosses_0 : List UInt8 := [27, 2, 159, 0, 51, 42, 5, 181, 0, 45, 42, 27, 181, 0, 48, 42, 42, 180, 0, 15, 27, 46, 42]
abbrev dktX3_crosses_0 : List UInt8 := dkwX3_crosses_0 ++ dktX3_crosses_1
theorem dksX3_crosses_0 : cX3_crosses.data.toList.drop 0 = dktX3_crosses_0 := by decide +kernel
theorem dksX3_crosses_1 : cX3_crosses.data.toList.drop 23 = dktX3_crosses_1 := dk_seg dksX3_crosses_0 23 rfl rfl
theorem dksX3_crosses_2 : cX3_crosses.data.toList.drop 47 = dktX3_crosses_2 := dk_seg dksX3_crosses_1 24 rfl rfl
theorem dksX3_crosses_3 : cX3_crosses.data.toList.drop 69 = dktX3_crosses_3 := dk_seg dksX3_crosses_2 22 rfl rfl
theorem dksX3_crosses_4 : cX3_crosses.data.toList.drop 92 = dktX3_crosses_4 := dk_seg dksX3_crosses_3 23 rfl rfl
theorem dX3_crosses_0 : decode cX3_crosses 0 = .ok (.iload_n 1, 1) := dk_27 (dk_at dksX3_crosses_0 0 rfl rfl)
theorem dX3_crosses_1 : decode cX3_crosses 1 = .ok (.iconst (-1), 1) := dk_2 (dk_at dksX3_crosses_0 1 rfl rfl)
theorem dX3_crosses_2 : decode cX3_crosses 2 = .ok (.if_icmp .eq 51, 3) := dk_159 0 51 (dk_at dksX3_crosses_0 2 rfl rfl)
theorem dX3_crosses_5 : decode cX3_crosses 5 = .ok (.aload_n 0, 1) := dk_42 (dk_at dksX3_crosses_0 5 rfl rfl)
theorem dX3_crosses_6 : decode cX3_crosses 6 = .ok (.iconst 2, 1) := dk_5 (dk_at dksX3_crosses_0 6 rfl rfl)
theorem dX3_crosses_7 : decode cX3_crosses 7 = .ok (.putfield 45, 3) := dk_181 0 45 (dk_at dksX3_crosses_0 7 rfl rfl)
theorem dX3_crosses_10 : decode cX3_crosses 10 = .ok (.aload_n 0, 1) := dk_42 (dk_at dksX3_crosses_0 10 rfl rfl)
theorem dX3_crosses_11 : decode cX3_crosses 11 = .ok (.iload_n 1, 1) := dk_27 (dk_at dksX3_crosses_0 11 rfl rfl)
theorem dX3_crosses_12 : decode cX3_crosses 12 = .ok (.putfield 48, 3) := dk_181 0 48 (dk_at dksX3_crosses_0 12 rfl rfl)
theorem dX3_crosses_15 : decode cX3_crosses 15 = .ok (.aload_n 0, 1) := dk_42 (dk_at dksX3_crosses_0 15 rfl rfl)
theorem dX3_crosses_16 : decode cX3_crosses 16 = .ok (.aload_n 0, 1) := dk_42 (dk_at dksX3_crosses_0 16 rfl rfl)
theorem dX3_crosses_17 : decode cX3_crosses 17 = .ok (.getfield 15, 3) := dk_180 0 15 (dk_at dksX3_crosses_0 17 rfl rfl)
theorem dX3_crosses_20 : decode cX3_crosses 20 = .ok (.iload_n 1, 1) := dk_27 (dk_at dksX3_crosses_0 20 rfl rfl)
theorem dX3_crosses_21 : decode cX3_crosses 21 = .ok (.iaload, 1) := dk_46 (dk_at dksX3_crosses_0 21 rfl rfl)
theorem dX3_crosses_22 : decode cX3_crosses 22 = .ok (.aload_n 0, 1) := dk_42 (dk_at dksX3_crosses_0 22 rfl rfl)
theorem dX3_crosses_23 : decode cX3_crosses 23 = .ok (.getfield 15, 3) := dk_180 0 15 (dk_at dksX3_crosses_1 0 rfl rfl)
theorem dX3_crosses_26 : decode cX3_crosses 26 = .ok (.iload_n 1, 1) := dk_27 (dk_at dksX3_crosses_1 3 rfl rfl)
theorem dX3_crosses_27 : decode cX3_crosses 27 = .ok (.iaload, 1) := dk_46 (dk_at dksX3_crosses_1 4 rfl rfl)
theorem dX3_crosses_28 : decode cX3_crosses 28 = .ok (.imul, 1) := dk_104 (dk_at dksX3_crosses_1 5 rfl rfl)
theorem dX3_crosses_29 : decode cX3_crosses 29 = .ok (.aload_n 0, 1) := dk_42 (dk_at dksX3_crosses_1 6 rfl rfl)
theorem dX3_crosses_30 : decode cX3_crosses 30 = .ok (.getfield 28, 3) := dk_180 0 28 (dk_at dksX3_crosses_1 7 rfl rfl)
theorem dX3_crosses_33 : decode cX3_crosses 33 = .ok (.getfield 119, 3) := dk_180 0 119 (dk_at dksX3_crosses_1 10 rfl rfl)
theorem dX3_crosses_36 : decode cX3_crosses 36 = .ok (.iconst 0, 1) := dk_3 (dk_at dksX3_crosses_1 13 rfl rfl)
theorem dX3_crosses_37 : decode cX3_crosses 37 = .ok (.invokestatic 122, 3) := dk_184 0 122 (dk_at dksX3_crosses_1 14 rfl rfl)
theorem dX3_crosses_40 : decode cX3_crosses 40 = .ok (.ifCond .eq 7, 3) := dk_153 0 7 (dk_at dksX3_crosses_1 17 rfl rfl)
theorem dX3_crosses_43 : decode cX3_crosses 43 = .ok (.iconst 2, 1) := dk_5 (dk_at dksX3_crosses_1 20 rfl rfl)
theorem dX3_crosses_44 : decode cX3_crosses 44 = .ok (.goto 4, 3) := dk_167 0 4 (dk_at dksX3_crosses_1 21 rfl rfl)
theorem dX3_crosses_47 : decode cX3_crosses 47 = .ok (.iconst 1, 1) := dk_4 (dk_at dksX3_crosses_2 0 rfl rfl)
theorem dX3_crosses_48 : decode cX3_crosses 48 = .ok (.imul, 1) := dk_104 (dk_at dksX3_crosses_2 1 rfl rfl)
theorem dX3_crosses_49 : decode cX3_crosses 49 = .ok (.putfield 51, 3) := dk_181 0 51 (dk_at dksX3_crosses_2 2 rfl rfl)
theorem dX3_crosses_52 : decode cX3_crosses 52 = .ok (.return_, 1) := dk_177 (dk_at dksX3_crosses_2 5 rfl rfl)
theorem dX3_crosses_53 : decode cX3_crosses 53 = .ok (.aload_n 0, 1) := dk_42 (dk_at dksX3_crosses_2 6 rfl rfl)
theorem dX3_crosses_54 : decode cX3_crosses 54 = .ok (.dup, 1) := dk_89 (dk_at dksX3_crosses_2 7 rfl rfl)
theorem dX3_crosses_55 : decode cX3_crosses 55 = .ok (.getfield 36, 3) := dk_180 0 36 (dk_at dksX3_crosses_2 8 rfl rfl)
theorem dX3_crosses_58 : decode cX3_crosses 58 = .ok (.iconst 1, 1) := dk_4 (dk_at dksX3_crosses_2 11 rfl rfl)
theorem dX3_crosses_59 : decode cX3_crosses 59 = .ok (.isub, 1) := dk_100 (dk_at dksX3_crosses_2 12 rfl rfl)
theorem dX3_crosses_60 : decode cX3_crosses 60 = .ok (.putfield 36, 3) := dk_181 0 36 (dk_at dksX3_crosses_2 13 rfl rfl)
theorem dX3_crosses_63 : decode cX3_crosses 63 = .ok (.aload_n 0, 1) := dk_42 (dk_at dksX3_crosses_2 16 rfl rfl)
theorem dX3_crosses_64 : decode cX3_crosses 64 = .ok (.dup, 1) := dk_89 (dk_at dksX3_crosses_2 17 rfl rfl)
theorem dX3_crosses_65 : decode cX3_crosses 65 = .ok (.getfield 32, 3) := dk_180 0 32 (dk_at dksX3_crosses_2 18 rfl rfl)
theorem dX3_crosses_68 : decode cX3_crosses 68 = .ok (.aload_n 0, 1) := dk_42 (dk_at dksX3_crosses_2 21 rfl rfl)
theorem dX3_crosses_69 : decode cX3_crosses 69 = .ok (.getfield 36, 3) := dk_180 0 36 (dk_at dksX3_crosses_3 0 rfl rfl)
theorem dX3_crosses_72 : decode cX3_crosses 72 = .ok (.ifCond .ne 7, 3) := dk_154 0 7 (dk_at dksX3_crosses_3 3 rfl rfl)
theorem dX3_crosses_75 : decode cX3_crosses 75 = .ok (.iconst 1, 1) := dk_4 (dk_at dksX3_crosses_3 6 rfl rfl)
theorem dX3_crosses_76 : decode cX3_crosses 76 = .ok (.goto 4, 3) := dk_167 0 4 (dk_at dksX3_crosses_3 7 rfl rfl)
theorem dX3_crosses_79 : decode cX3_crosses 79 = .ok (.iconst 0, 1) := dk_3 (dk_at dksX3_crosses_3 10 rfl rfl)
theorem dX3_crosses_80 : decode cX3_crosses 80 = .ok (.iadd, 1) := dk_96 (dk_at dksX3_crosses_3 11 rfl rfl)
theorem dX3_crosses_81 : decode cX3_crosses 81 = .ok (.putfield 32, 3) := dk_181 0 32 (dk_at dksX3_crosses_3 12 rfl rfl)
theorem dX3_crosses_84 : decode cX3_crosses 84 = .ok (.aload_n 0, 1) := dk_42 (dk_at dksX3_crosses_3 15 rfl rfl)
theorem dX3_crosses_85 : decode cX3_crosses 85 = .ok (.getfield 32, 3) := dk_180 0 32 (dk_at dksX3_crosses_3 16 rfl rfl)
theorem dX3_crosses_88 : decode cX3_crosses 88 = .ok (.aload_n 0, 1) := dk_42 (dk_at dksX3_crosses_3 19 rfl rfl)
theorem dX3_crosses_89 : decode cX3_crosses 89 = .ok (.getfield 28, 3) := dk_180 0 28 (dk_at dksX3_crosses_3 20 rfl rfl)
theorem dX3_crosses_92 : decode cX3_crosses 92 = .ok (.getfield 126, 3) := dk_180 0 126 (dk_at dksX3_crosses_4 0 rfl rfl)
theorem dX3_crosses_95 : decode cX3_crosses 95 = .ok (.if_icmp .ne 8, 3) := dk_160 0 8 (dk_at dksX3_crosses_4 3 rfl rfl)
theorem dX3_crosses_98 : decode cX3_crosses 98 = .ok (.aload_n 0, 1) := dk_42 (dk_at dksX3_crosses_4 6 rfl rfl)
theorem dX3_crosses_99 : decode cX3_crosses 99 = .ok (.iconst 1, 1) := dk_4 (dk_at dksX3_crosses_4 7 rfl rfl)
theorem dX3_crosses_100 : decode cX3_crosses 100 = .ok (.putfield 45, 3) := dk_181 0 45 (dk_at dksX3_crosses_4 8 rfl rfl)
theorem dX3_crosses_103 : decode cX3_crosses 103 = .ok (.return_, 1) := dk_177 (dk_at dksX3_crosses_4 11 rfl rfl)
abbrev cX3_be : ByteArray := prog_19_method_3_code
def yX3_be : MethodName := ⟨RX3, "be", "(LFootOut$Walk;)V"⟩
def dkwX3_be_5 : List UInt8 := [28, 51, 84, 132, 2, 1, 167, 255, 197, 177]
abbrev dktX3_be_5 : List UInt8 := dkwX3_be_5 ++ []
def dkwX3_be_4 : List UInt8 := [28, 46, 79, 42, 180, 0, 18, 28, 43, 180, 0, 18, 28, 46, 79, 42, 180, 0, 21, 28, 43, 180, 0, 21]
abbrev dktX3_be_4 : List UInt8 := dkwX3_be_4 ++ dktX3_be_5
def dkwX3_be_3 : List UInt8 := [162, 0, 57, 42, 180, 0, 9, 28, 43, 180, 0, 9, 28, 46, 79, 42, 180, 0, 15, 28, 43, 180, 0, 15]
abbrev dktX3_be_3 : List UInt8 := dkwX3_be_3 ++ dktX3_be_4
def dkwX3_be_2 : List UInt8 := [42, 43, 180, 0, 48, 181, 0, 48, 42, 43, 180, 0, 51, 181, 0, 51, 3, 61, 28, 42, 182, 0, 54]
abbrev dktX3_be_2 : List UInt8 := dkwX3_be_2 ++ dktX3_be_3
def dkwX3_be_1 : List UInt8 := [42, 43, 180, 0, 39, 181, 0, 39, 42, 43, 180, 0, 42, 181, 0, 42, 42, 43, 180, 0, 45, 181, 0, 45]
abbrev dktX3_be_1 : List UInt8 := dkwX3_be_1 ++ dktX3_be_2
def dkwX3_be_0 : List UInt8 := [42, 43, 180, 0, 28, 181, 0, 28, 42, 43, 180, 0, 32, 181, 0, 32, 42, 43, 180, 0, 36, 181, 0, 36]
abbrev dktX3_be_0 : List UInt8 := dkwX3_be_0 ++ dktX3_be_1
theorem dksX3_be_0 : cX3_be.data.toList.drop 0 = dktX3_be_0 := by decide +kernel
theorem dksX3_be_1 : cX3_be.data.toList.drop 24 = dktX3_be_1 := dk_seg dksX3_be_0 24 rfl rfl
theorem dksX3_be_2 : cX3_be.data.toList.drop 48 = dktX3_be_2 := dk_seg dksX3_be_1 24 rfl rfl
theorem dksX3_be_3 : cX3_be.data.toList.drop 71 = dktX3_be_3 := dk_seg dksX3_be_2 23 rfl rfl
theorem dksX3_be_4 : cX3_be.data.toList.drop 95 = dktX3_be_4 := dk_seg dksX3_be_3 24 rfl rfl
theorem dksX3_be_5 : cX3_be.data.toList.drop 119 = dktX3_be_5 := dk_seg dksX3_be_4 24 rfl rfl
theorem dX3_be_0 : decode cX3_be 0 = .ok (.aload_n 0, 1) := dk_42 (dk_at dksX3_be_0 0 rfl rfl)
theorem dX3_be_1 : decode cX3_be 1 = .ok (.aload_n 1, 1) := dk_43 (dk_at dksX3_be_0 1 rfl rfl)
theorem dX3_be_2 : decode cX3_be 2 = .ok (.getfield 28, 3) := dk_180 0 28 (dk_at dksX3_be_0 2 rfl rfl)
theorem dX3_be_5 : decode cX3_be 5 = .ok (.putfield 28, 3) := dk_181 0 28 (dk_at dksX3_be_0 5 rfl rfl)
theorem dX3_be_8 : decode cX3_be 8 = .ok (.aload_n 0, 1) := dk_42 (dk_at dksX3_be_0 8 rfl rfl)
theorem dX3_be_9 : decode cX3_be 9 = .ok (.aload_n 1, 1) := dk_43 (dk_at dksX3_be_0 9 rfl rfl)
theorem dX3_be_10 : decode cX3_be 10 = .ok (.getfield 32, 3) := dk_180 0 32 (dk_at dksX3_be_0 10 rfl rfl)
theorem dX3_be_13 : decode cX3_be 13 = .ok (.putfield 32, 3) := dk_181 0 32 (dk_at dksX3_be_0 13 rfl rfl)
theorem dX3_be_16 : decode cX3_be 16 = .ok (.aload_n 0, 1) := dk_42 (dk_at dksX3_be_0 16 rfl rfl)
theorem dX3_be_17 : decode cX3_be 17 = .ok (.aload_n 1, 1) := dk_43 (dk_at dksX3_be_0 17 rfl rfl)
theorem dX3_be_18 : decode cX3_be 18 = .ok (.getfield 36, 3) := dk_180 0 36 (dk_at dksX3_be_0 18 rfl rfl)
theorem dX3_be_21 : decode cX3_be 21 = .ok (.putfield 36, 3) := dk_181 0 36 (dk_at dksX3_be_0 21 rfl rfl)
theorem dX3_be_24 : decode cX3_be 24 = .ok (.aload_n 0, 1) := dk_42 (dk_at dksX3_be_1 0 rfl rfl)
theorem dX3_be_25 : decode cX3_be 25 = .ok (.aload_n 1, 1) := dk_43 (dk_at dksX3_be_1 1 rfl rfl)
theorem dX3_be_26 : decode cX3_be 26 = .ok (.getfield 39, 3) := dk_180 0 39 (dk_at dksX3_be_1 2 rfl rfl)
theorem dX3_be_29 : decode cX3_be 29 = .ok (.putfield 39, 3) := dk_181 0 39 (dk_at dksX3_be_1 5 rfl rfl)
theorem dX3_be_32 : decode cX3_be 32 = .ok (.aload_n 0, 1) := dk_42 (dk_at dksX3_be_1 8 rfl rfl)
theorem dX3_be_33 : decode cX3_be 33 = .ok (.aload_n 1, 1) := dk_43 (dk_at dksX3_be_1 9 rfl rfl)
theorem dX3_be_34 : decode cX3_be 34 = .ok (.getfield 42, 3) := dk_180 0 42 (dk_at dksX3_be_1 10 rfl rfl)
theorem dX3_be_37 : decode cX3_be 37 = .ok (.putfield 42, 3) := dk_181 0 42 (dk_at dksX3_be_1 13 rfl rfl)
theorem dX3_be_40 : decode cX3_be 40 = .ok (.aload_n 0, 1) := dk_42 (dk_at dksX3_be_1 16 rfl rfl)
theorem dX3_be_41 : decode cX3_be 41 = .ok (.aload_n 1, 1) := dk_43 (dk_at dksX3_be_1 17 rfl rfl)
theorem dX3_be_42 : decode cX3_be 42 = .ok (.getfield 45, 3) := dk_180 0 45 (dk_at dksX3_be_1 18 rfl rfl)
theorem dX3_be_45 : decode cX3_be 45 = .ok (.putfield 45, 3) := dk_181 0 45 (dk_at dksX3_be_1 21 rfl rfl)
theorem dX3_be_48 : decode cX3_be 48 = .ok (.aload_n 0, 1) := dk_42 (dk_at dksX3_be_2 0 rfl rfl)
theorem dX3_be_49 : decode cX3_be 49 = .ok (.aload_n 1, 1) := dk_43 (dk_at dksX3_be_2 1 rfl rfl)
theorem dX3_be_50 : decode cX3_be 50 = .ok (.getfield 48, 3) := dk_180 0 48 (dk_at dksX3_be_2 2 rfl rfl)
theorem dX3_be_53 : decode cX3_be 53 = .ok (.putfield 48, 3) := dk_181 0 48 (dk_at dksX3_be_2 5 rfl rfl)
theorem dX3_be_56 : decode cX3_be 56 = .ok (.aload_n 0, 1) := dk_42 (dk_at dksX3_be_2 8 rfl rfl)
theorem dX3_be_57 : decode cX3_be 57 = .ok (.aload_n 1, 1) := dk_43 (dk_at dksX3_be_2 9 rfl rfl)
theorem dX3_be_58 : decode cX3_be 58 = .ok (.getfield 51, 3) := dk_180 0 51 (dk_at dksX3_be_2 10 rfl rfl)
theorem dX3_be_61 : decode cX3_be 61 = .ok (.putfield 51, 3) := dk_181 0 51 (dk_at dksX3_be_2 13 rfl rfl)
theorem dX3_be_64 : decode cX3_be 64 = .ok (.iconst 0, 1) := dk_3 (dk_at dksX3_be_2 16 rfl rfl)
theorem dX3_be_65 : decode cX3_be 65 = .ok (.istore_n 2, 1) := dk_61 (dk_at dksX3_be_2 17 rfl rfl)
theorem dX3_be_66 : decode cX3_be 66 = .ok (.iload_n 2, 1) := dk_28 (dk_at dksX3_be_2 18 rfl rfl)
theorem dX3_be_67 : decode cX3_be 67 = .ok (.aload_n 0, 1) := dk_42 (dk_at dksX3_be_2 19 rfl rfl)
theorem dX3_be_68 : decode cX3_be 68 = .ok (.invokevirtual 54, 3) := dk_182 0 54 (dk_at dksX3_be_2 20 rfl rfl)
theorem dX3_be_71 : decode cX3_be 71 = .ok (.if_icmp .ge 57, 3) := dk_162 0 57 (dk_at dksX3_be_3 0 rfl rfl)
theorem dX3_be_74 : decode cX3_be 74 = .ok (.aload_n 0, 1) := dk_42 (dk_at dksX3_be_3 3 rfl rfl)
theorem dX3_be_75 : decode cX3_be 75 = .ok (.getfield 9, 3) := dk_180 0 9 (dk_at dksX3_be_3 4 rfl rfl)
theorem dX3_be_78 : decode cX3_be 78 = .ok (.iload_n 2, 1) := dk_28 (dk_at dksX3_be_3 7 rfl rfl)
theorem dX3_be_79 : decode cX3_be 79 = .ok (.aload_n 1, 1) := dk_43 (dk_at dksX3_be_3 8 rfl rfl)
theorem dX3_be_80 : decode cX3_be 80 = .ok (.getfield 9, 3) := dk_180 0 9 (dk_at dksX3_be_3 9 rfl rfl)
theorem dX3_be_83 : decode cX3_be 83 = .ok (.iload_n 2, 1) := dk_28 (dk_at dksX3_be_3 12 rfl rfl)
theorem dX3_be_84 : decode cX3_be 84 = .ok (.iaload, 1) := dk_46 (dk_at dksX3_be_3 13 rfl rfl)
theorem dX3_be_85 : decode cX3_be 85 = .ok (.iastore, 1) := dk_79 (dk_at dksX3_be_3 14 rfl rfl)
theorem dX3_be_86 : decode cX3_be 86 = .ok (.aload_n 0, 1) := dk_42 (dk_at dksX3_be_3 15 rfl rfl)
theorem dX3_be_87 : decode cX3_be 87 = .ok (.getfield 15, 3) := dk_180 0 15 (dk_at dksX3_be_3 16 rfl rfl)
theorem dX3_be_90 : decode cX3_be 90 = .ok (.iload_n 2, 1) := dk_28 (dk_at dksX3_be_3 19 rfl rfl)
theorem dX3_be_91 : decode cX3_be 91 = .ok (.aload_n 1, 1) := dk_43 (dk_at dksX3_be_3 20 rfl rfl)
theorem dX3_be_92 : decode cX3_be 92 = .ok (.getfield 15, 3) := dk_180 0 15 (dk_at dksX3_be_3 21 rfl rfl)
theorem dX3_be_95 : decode cX3_be 95 = .ok (.iload_n 2, 1) := dk_28 (dk_at dksX3_be_4 0 rfl rfl)
theorem dX3_be_96 : decode cX3_be 96 = .ok (.iaload, 1) := dk_46 (dk_at dksX3_be_4 1 rfl rfl)
theorem dX3_be_97 : decode cX3_be 97 = .ok (.iastore, 1) := dk_79 (dk_at dksX3_be_4 2 rfl rfl)
theorem dX3_be_98 : decode cX3_be 98 = .ok (.aload_n 0, 1) := dk_42 (dk_at dksX3_be_4 3 rfl rfl)
theorem dX3_be_99 : decode cX3_be 99 = .ok (.getfield 18, 3) := dk_180 0 18 (dk_at dksX3_be_4 4 rfl rfl)
theorem dX3_be_102 : decode cX3_be 102 = .ok (.iload_n 2, 1) := dk_28 (dk_at dksX3_be_4 7 rfl rfl)
theorem dX3_be_103 : decode cX3_be 103 = .ok (.aload_n 1, 1) := dk_43 (dk_at dksX3_be_4 8 rfl rfl)
theorem dX3_be_104 : decode cX3_be 104 = .ok (.getfield 18, 3) := dk_180 0 18 (dk_at dksX3_be_4 9 rfl rfl)
theorem dX3_be_107 : decode cX3_be 107 = .ok (.iload_n 2, 1) := dk_28 (dk_at dksX3_be_4 12 rfl rfl)
theorem dX3_be_108 : decode cX3_be 108 = .ok (.iaload, 1) := dk_46 (dk_at dksX3_be_4 13 rfl rfl)
theorem dX3_be_109 : decode cX3_be 109 = .ok (.iastore, 1) := dk_79 (dk_at dksX3_be_4 14 rfl rfl)
theorem dX3_be_110 : decode cX3_be 110 = .ok (.aload_n 0, 1) := dk_42 (dk_at dksX3_be_4 15 rfl rfl)
theorem dX3_be_111 : decode cX3_be 111 = .ok (.getfield 21, 3) := dk_180 0 21 (dk_at dksX3_be_4 16 rfl rfl)
theorem dX3_be_114 : decode cX3_be 114 = .ok (.iload_n 2, 1) := dk_28 (dk_at dksX3_be_4 19 rfl rfl)
theorem dX3_be_115 : decode cX3_be 115 = .ok (.aload_n 1, 1) := dk_43 (dk_at dksX3_be_4 20 rfl rfl)
theorem dX3_be_116 : decode cX3_be 116 = .ok (.getfield 21, 3) := dk_180 0 21 (dk_at dksX3_be_4 21 rfl rfl)
theorem dX3_be_119 : decode cX3_be 119 = .ok (.iload_n 2, 1) := dk_28 (dk_at dksX3_be_5 0 rfl rfl)
theorem dX3_be_120 : decode cX3_be 120 = .ok (.baload, 1) := dk_51 (dk_at dksX3_be_5 1 rfl rfl)
theorem dX3_be_121 : decode cX3_be 121 = .ok (.bastore, 1) := dk_84 (dk_at dksX3_be_5 2 rfl rfl)
theorem dX3_be_122 : decode cX3_be 122 = .ok (.iinc 2 1, 3) := dk_132 2 1 (dk_at dksX3_be_5 3 rfl rfl)
theorem dX3_be_125 : decode cX3_be 125 = .ok (.goto (-59), 3) := dk_167 255 197 (dk_at dksX3_be_5 6 rfl rfl)
theorem dX3_be_128 : decode cX3_be 128 = .ok (.return_, 1) := dk_177 (dk_at dksX3_be_5 9 rfl rfl)
theorem q130 : (Jvm.Cond.initialized "FootOut$Walk") ∈ lw_all := lw_g (lw_at lw_m1 7 rfl) rfl
theorem q213 : (Jvm.Cond.fieldLinkNest "FootOut$Walk" (71 : Nat) "FootOut$Scene" "cars" "Ljava/util/ArrayList;" "FootOut") ∈ lw_tbl := lw_at lw_m1 90 rfl
theorem q217 : (Jvm.Cond.fieldLinkNest "FootOut$Walk" (126 : Nat) "FootOut$Scene" "lanes" "I" "FootOut") ∈ lw_tbl := lw_at lw_m1 94 rfl
theorem q222 : (Jvm.Cond.fieldLinkNest "FootOut$Walk" (119 : Nat) "FootOut$Scene" "traits" "I" "FootOut") ∈ lw_tbl := lw_at lw_m1 99 rfl
theorem q226 : (Jvm.Cond.fieldLinkNest "FootOut$Walk" (91 : Nat) "FootOut$Scene" "line" "I" "FootOut") ∈ lw_tbl := lw_at lw_m1 103 rfl
theorem q230 : (Jvm.Cond.fieldLinkNest "FootOut$Walk" (106 : Nat) "FootOut$Scene" "gap" "I" "FootOut") ∈ lw_tbl := lw_at lw_m1 107 rfl
theorem q233 : (Jvm.Cond.fieldLinkNest "FootOut$Walk" (116 : Nat) "FootOut$Scene" "waits" "I" "FootOut") ∈ lw_tbl := lw_at lw_m1 110 rfl
theorem q236 : (Jvm.Cond.fieldLinkNest "FootOut$Walk" (84 : Nat) "FootOut$Scene" "sight" "I" "FootOut") ∈ lw_tbl := lw_at lw_m1 113 rfl
theorem q288 : (Jvm.Cond.instantiable "FootOut$Walk" (13 : Nat)) ∈ lw_all := lw_g (lw_at lw_m1 165 rfl) rfl
theorem q290 : (Jvm.Cond.instanceMethod ({ cls := "FootOut$Walk", name := "<init>", desc := "()V" } : Jvm.MethodName)) ∈ lw_all := lw_g (lw_at lw_m1 167 rfl) rfl
theorem q291 : (Jvm.Cond.code ({ cls := "FootOut$Walk", name := "<init>", desc := "()V" } : Jvm.MethodName) prog_19_method_1_code (1 : Nat) (Option.none : Option Jvm.ClassFile.FieldType)) ∈ lw_all := lw_g (lw_at lw_m1 168 rfl) rfl
theorem q292 : (Jvm.Cond.methodLink "FootOut$Walk" (3 : Nat) ({ cls := "java/lang/Object", name := "<init>", desc := "()V" } : Jvm.MethodName)) ∈ lw_all := lw_g (lw_at lw_m1 169 rfl) rfl
theorem q293 : (Jvm.Cond.fieldLink "FootOut$Walk" (9 : Nat) "FootOut$Walk" "dist" "[I") ∈ lw_all := lw_g (lw_at lw_m1 170 rfl) rfl
theorem q299 : (Jvm.Cond.fieldLink "FootOut$Walk" (15 : Nat) "FootOut$Walk" "pace" "[I") ∈ lw_all := lw_g (lw_at lw_m1 176 rfl) rfl
theorem q302 : (Jvm.Cond.fieldLink "FootOut$Walk" (18 : Nat) "FootOut$Walk" "decided" "[I") ∈ lw_all := lw_g (lw_at lw_m1 179 rfl) rfl
theorem q307 : (Jvm.Cond.fieldLink "FootOut$Walk" (21 : Nat) "FootOut$Walk" "isHeld" "[Z") ∈ lw_all := lw_g (lw_at lw_m1 184 rfl) rfl
theorem q309 : (Jvm.Cond.fieldLink "FootOut$Walk" (25 : Nat) "FootOut$Walk" "isMoved" "[Z") ∈ lw_all := lw_g (lw_at lw_m1 186 rfl) rfl
theorem q311 : (Jvm.Cond.fieldLink "FootOut$Walk" (28 : Nat) "FootOut$Walk" "scene" "LFootOut$Scene;") ∈ lw_all := lw_g (lw_at lw_m1 188 rfl) rfl
theorem q313 : (Jvm.Cond.fieldLink "FootOut$Walk" (32 : Nat) "FootOut$Walk" "past" "I") ∈ lw_all := lw_g (lw_at lw_m1 190 rfl) rfl
theorem q316 : (Jvm.Cond.fieldLink "FootOut$Walk" (36 : Nat) "FootOut$Walk" "inFor" "I") ∈ lw_all := lw_g (lw_at lw_m1 193 rfl) rfl
theorem q318 : (Jvm.Cond.fieldLink "FootOut$Walk" (39 : Nat) "FootOut$Walk" "stood" "I") ∈ lw_all := lw_g (lw_at lw_m1 195 rfl) rfl
theorem q320 : (Jvm.Cond.fieldLink "FootOut$Walk" (42 : Nat) "FootOut$Walk" "ticks" "I") ∈ lw_all := lw_g (lw_at lw_m1 197 rfl) rfl
theorem q322 : (Jvm.Cond.fieldLink "FootOut$Walk" (45 : Nat) "FootOut$Walk" "end" "I") ∈ lw_all := lw_g (lw_at lw_m1 199 rfl) rfl
theorem q324 : (Jvm.Cond.fieldLink "FootOut$Walk" (48 : Nat) "FootOut$Walk" "by" "I") ∈ lw_all := lw_g (lw_at lw_m1 201 rfl) rfl
theorem q326 : (Jvm.Cond.fieldLink "FootOut$Walk" (51 : Nat) "FootOut$Walk" "harm" "I") ∈ lw_all := lw_g (lw_at lw_m1 203 rfl) rfl
theorem q328 : (Jvm.Cond.laysFinal "FootOut$Walk" "FootOut$Walk" "dist" "[I") ∈ lw_all := lw_g (lw_at lw_m1 205 rfl) rfl
theorem q329 : (Jvm.Cond.soleField "FootOut$Walk" "dist") ∈ lw_all := lw_g (lw_at lw_m1 206 rfl) rfl
theorem q330 : (Jvm.Cond.laysFinal "FootOut$Walk" "FootOut$Walk" "pace" "[I") ∈ lw_all := lw_g (lw_at lw_m1 207 rfl) rfl
theorem q331 : (Jvm.Cond.soleField "FootOut$Walk" "pace") ∈ lw_all := lw_g (lw_at lw_m1 208 rfl) rfl
theorem q332 : (Jvm.Cond.laysFinal "FootOut$Walk" "FootOut$Walk" "decided" "[I") ∈ lw_all := lw_g (lw_at lw_m1 209 rfl) rfl
theorem q333 : (Jvm.Cond.soleField "FootOut$Walk" "decided") ∈ lw_all := lw_g (lw_at lw_m1 210 rfl) rfl
theorem q334 : (Jvm.Cond.laysFinal "FootOut$Walk" "FootOut$Walk" "isHeld" "[Z") ∈ lw_all := lw_g (lw_at lw_m1 211 rfl) rfl
theorem q335 : (Jvm.Cond.soleField "FootOut$Walk" "isHeld") ∈ lw_all := lw_g (lw_at lw_m1 212 rfl) rfl
theorem q336 : (Jvm.Cond.laysFinal "FootOut$Walk" "FootOut$Walk" "isMoved" "[Z") ∈ lw_all := lw_g (lw_at lw_m1 213 rfl) rfl
theorem q337 : (Jvm.Cond.soleField "FootOut$Walk" "isMoved") ∈ lw_all := lw_g (lw_at lw_m1 214 rfl) rfl
theorem q338 : (Jvm.Cond.lays "FootOut$Walk" "FootOut$Walk" "scene" "LFootOut$Scene;") ∈ lw_all := lw_g (lw_at lw_m1 215 rfl) rfl
theorem q339 : (Jvm.Cond.soleField "FootOut$Walk" "scene") ∈ lw_all := lw_g (lw_at lw_m1 216 rfl) rfl
theorem q340 : (Jvm.Cond.lays "FootOut$Walk" "FootOut$Walk" "past" "I") ∈ lw_all := lw_g (lw_at lw_m1 217 rfl) rfl
theorem q341 : (Jvm.Cond.soleField "FootOut$Walk" "past") ∈ lw_all := lw_g (lw_at lw_m1 218 rfl) rfl
theorem q342 : (Jvm.Cond.lays "FootOut$Walk" "FootOut$Walk" "inFor" "I") ∈ lw_all := lw_g (lw_at lw_m1 219 rfl) rfl
theorem q343 : (Jvm.Cond.soleField "FootOut$Walk" "inFor") ∈ lw_all := lw_g (lw_at lw_m1 220 rfl) rfl
theorem q344 : (Jvm.Cond.lays "FootOut$Walk" "FootOut$Walk" "stood" "I") ∈ lw_all := lw_g (lw_at lw_m1 221 rfl) rfl
theorem q345 : (Jvm.Cond.soleField "FootOut$Walk" "stood") ∈ lw_all := lw_g (lw_at lw_m1 222 rfl) rfl
theorem q346 : (Jvm.Cond.lays "FootOut$Walk" "FootOut$Walk" "ticks" "I") ∈ lw_all := lw_g (lw_at lw_m1 223 rfl) rfl
theorem q347 : (Jvm.Cond.soleField "FootOut$Walk" "ticks") ∈ lw_all := lw_g (lw_at lw_m1 224 rfl) rfl
theorem q348 : (Jvm.Cond.lays "FootOut$Walk" "FootOut$Walk" "end" "I") ∈ lw_all := lw_g (lw_at lw_m1 225 rfl) rfl
theorem q349 : (Jvm.Cond.soleField "FootOut$Walk" "end") ∈ lw_all := lw_g (lw_at lw_m1 226 rfl) rfl
theorem q350 : (Jvm.Cond.lays "FootOut$Walk" "FootOut$Walk" "by" "I") ∈ lw_all := lw_g (lw_at lw_m1 227 rfl) rfl
theorem q351 : (Jvm.Cond.soleField "FootOut$Walk" "by") ∈ lw_all := lw_g (lw_at lw_m1 228 rfl) rfl
theorem q352 : (Jvm.Cond.lays "FootOut$Walk" "FootOut$Walk" "harm" "I") ∈ lw_all := lw_g (lw_at lw_m1 229 rfl) rfl
theorem q353 : (Jvm.Cond.soleField "FootOut$Walk" "harm") ∈ lw_all := lw_g (lw_at lw_m1 230 rfl) rfl
theorem q354 : (Jvm.Cond.superclass "FootOut$Walk" "java/lang/Object") ∈ lw_all := lw_g (lw_at lw_m1 231 rfl) rfl
theorem q621 : (Jvm.Cond.fieldLinkNest "FootOut$Walk" (94 : Nat) "FootOut$Car" "lane" "I" "FootOut") ∈ lw_tbl := lw_at lw_m3 18 rfl
theorem q625 : (Jvm.Cond.fieldLinkNest "FootOut$Walk" (62 : Nat) "FootOut$Car" "dist" "I" "FootOut") ∈ lw_tbl := lw_at lw_m3 22 rfl
theorem q632 : (Jvm.Cond.fieldLinkNest "FootOut$Walk" (97 : Nat) "FootOut$Car" "kind" "I" "FootOut") ∈ lw_tbl := lw_at lw_m3 29 rfl
theorem q693 : (Jvm.Cond.selects "FootOut$Walk" ({ cls := "java/lang/Object", name := "getClass", desc := "()Ljava/lang/Class;" } : Jvm.MethodName) ({ cls := "java/lang/Object", name := "getClass", desc := "()Ljava/lang/Class;" } : Jvm.MethodName)) ∈ lw_all := lw_g (lw_at lw_m3 90 rfl) rfl
theorem q933 : (Jvm.Cond.instanceMethod ({ cls := "FootOut$Walk", name := "begins", desc := "(LFootOut$Scene;)LFootOut$Walk;" } : Jvm.MethodName)) ∈ lw_all := lw_g (lw_at lw_m4 90 rfl) rfl
theorem q934 : (Jvm.Cond.selects "FootOut$Walk" ({ cls := "FootOut$Walk", name := "begins", desc := "(LFootOut$Scene;)LFootOut$Walk;" } : Jvm.MethodName) ({ cls := "FootOut$Walk", name := "begins", desc := "(LFootOut$Scene;)LFootOut$Walk;" } : Jvm.MethodName)) ∈ lw_all := lw_g (lw_at lw_m4 91 rfl) rfl
theorem q935 : (Jvm.Cond.code ({ cls := "FootOut$Walk", name := "begins", desc := "(LFootOut$Scene;)LFootOut$Walk;" } : Jvm.MethodName) prog_19_method_2_code (3 : Nat) (Option.some (Jvm.ClassFile.FieldType.object "FootOut$Walk"))) ∈ lw_all := lw_g (lw_at lw_m4 92 rfl) rfl
theorem q936 : (Jvm.Cond.methodLink "FootOut$Walk" (54 : Nat) ({ cls := "FootOut$Walk", name := "many", desc := "()I" } : Jvm.MethodName)) ∈ lw_all := lw_g (lw_at lw_m4 93 rfl) rfl
theorem q937 : (Jvm.Cond.instanceMethod ({ cls := "FootOut$Walk", name := "many", desc := "()I" } : Jvm.MethodName)) ∈ lw_all := lw_g (lw_at lw_m4 94 rfl) rfl
theorem q938 : (Jvm.Cond.selects "FootOut$Walk" ({ cls := "FootOut$Walk", name := "many", desc := "()I" } : Jvm.MethodName) ({ cls := "FootOut$Walk", name := "many", desc := "()I" } : Jvm.MethodName)) ∈ lw_all := lw_g (lw_at lw_m4 95 rfl) rfl
theorem q939 : (Jvm.Cond.code ({ cls := "FootOut$Walk", name := "many", desc := "()I" } : Jvm.MethodName) prog_19_method_4_code (1 : Nat) (Option.some Jvm.ClassFile.FieldType.int)) ∈ lw_all := lw_g (lw_at lw_m4 96 rfl) rfl
theorem q940 : (Jvm.Cond.methodLink "FootOut$Walk" (75 : Nat) ({ cls := "java/util/ArrayList", name := "size", desc := "()I" } : Jvm.MethodName)) ∈ lw_all := lw_g (lw_at lw_m4 97 rfl) rfl
theorem q941 : (Jvm.Cond.methodLink "FootOut$Walk" (58 : Nat) ({ cls := "FootOut$Walk", name := "car", desc := "(I)LFootOut$Car;" } : Jvm.MethodName)) ∈ lw_all := lw_g (lw_at lw_m4 98 rfl) rfl
theorem q942 : (Jvm.Cond.instanceMethod ({ cls := "FootOut$Walk", name := "car", desc := "(I)LFootOut$Car;" } : Jvm.MethodName)) ∈ lw_all := lw_g (lw_at lw_m4 99 rfl) rfl
theorem q943 : (Jvm.Cond.selects "FootOut$Walk" ({ cls := "FootOut$Walk", name := "car", desc := "(I)LFootOut$Car;" } : Jvm.MethodName) ({ cls := "FootOut$Walk", name := "car", desc := "(I)LFootOut$Car;" } : Jvm.MethodName)) ∈ lw_all := lw_g (lw_at lw_m4 100 rfl) rfl
theorem q944 : (Jvm.Cond.code ({ cls := "FootOut$Walk", name := "car", desc := "(I)LFootOut$Car;" } : Jvm.MethodName) prog_19_method_5_code (2 : Nat) (Option.some (Jvm.ClassFile.FieldType.object "FootOut$Car"))) ∈ lw_all := lw_g (lw_at lw_m4 101 rfl) rfl
theorem q945 : (Jvm.Cond.methodLink "FootOut$Walk" (80 : Nat) ({ cls := "java/util/ArrayList", name := "get", desc := "(I)Ljava/lang/Object;" } : Jvm.MethodName)) ∈ lw_all := lw_g (lw_at lw_m4 102 rfl) rfl
theorem q946 : (Jvm.Cond.classLink "FootOut$Walk" (63 : Nat) "FootOut$Car") ∈ lw_all := lw_g (lw_at lw_m4 103 rfl) rfl
theorem q947 : (Jvm.Cond.methodLink "FootOut$Walk" (66 : Nat) ({ cls := "FootOut$Scene", name := "pace", desc := "(I)I" } : Jvm.MethodName)) ∈ lw_all := lw_g (lw_at lw_m4 104 rfl) rfl
theorem q1013 : (Jvm.Cond.instanceMethod ({ cls := "FootOut$Walk", name := "can", desc := "(I)Z" } : Jvm.MethodName)) ∈ lw_all := lw_g (lw_at lw_m4 170 rfl) rfl
theorem q1014 : (Jvm.Cond.selects "FootOut$Walk" ({ cls := "FootOut$Walk", name := "can", desc := "(I)Z" } : Jvm.MethodName) ({ cls := "FootOut$Walk", name := "can", desc := "(I)Z" } : Jvm.MethodName)) ∈ lw_all := lw_g (lw_at lw_m4 171 rfl) rfl
theorem q1015 : (Jvm.Cond.code ({ cls := "FootOut$Walk", name := "can", desc := "(I)Z" } : Jvm.MethodName) prog_19_method_7_code (2 : Nat) (Option.some Jvm.ClassFile.FieldType.boolean)) ∈ lw_all := lw_g (lw_at lw_m4 172 rfl) rfl
theorem q1031 : (Jvm.Cond.instanceMethod ({ cls := "FootOut$Walk", name := "isAsked", desc := "(I)Z" } : Jvm.MethodName)) ∈ lw_all := lw_g (lw_at lw_m4 188 rfl) rfl
theorem q1032 : (Jvm.Cond.selects "FootOut$Walk" ({ cls := "FootOut$Walk", name := "isAsked", desc := "(I)Z" } : Jvm.MethodName) ({ cls := "FootOut$Walk", name := "isAsked", desc := "(I)Z" } : Jvm.MethodName)) ∈ lw_all := lw_g (lw_at lw_m4 189 rfl) rfl
theorem q1033 : (Jvm.Cond.code ({ cls := "FootOut$Walk", name := "isAsked", desc := "(I)Z" } : Jvm.MethodName) prog_19_method_6_code (2 : Nat) (Option.some Jvm.ClassFile.FieldType.boolean)) ∈ lw_all := lw_g (lw_at lw_m4 190 rfl) rfl
theorem q1034 : (Jvm.Cond.methodLinkNest "FootOut$Walk" (87 : Nat) ({ cls := "FootOut", name := "in", desc := "(JJJ)Z" } : Jvm.MethodName) "FootOut") ∈ lw_tbl := lw_at lw_m4 191 rfl
theorem q1041 : (Jvm.Cond.instanceMethod ({ cls := "FootOut$Walk", name := "goesOn", desc := "()V" } : Jvm.MethodName)) ∈ lw_all := lw_g (lw_at lw_m4 198 rfl) rfl
theorem q1042 : (Jvm.Cond.selects "FootOut$Walk" ({ cls := "FootOut$Walk", name := "goesOn", desc := "()V" } : Jvm.MethodName) ({ cls := "FootOut$Walk", name := "goesOn", desc := "()V" } : Jvm.MethodName)) ∈ lw_all := lw_g (lw_at lw_m4 199 rfl) rfl
theorem q1043 : (Jvm.Cond.code ({ cls := "FootOut$Walk", name := "goesOn", desc := "()V" } : Jvm.MethodName) prog_19_method_11_code (5 : Nat) (Option.none : Option Jvm.ClassFile.FieldType)) ∈ lw_all := lw_g (lw_at lw_m4 200 rfl) rfl
theorem q1044 : (Jvm.Cond.methodLink "FootOut$Walk" (109 : Nat) ({ cls := "FootOut$Walk", name := "isFree", desc := "()Z" } : Jvm.MethodName)) ∈ lw_all := lw_g (lw_at lw_m4 201 rfl) rfl
theorem q1045 : (Jvm.Cond.privateMethod ({ cls := "FootOut$Walk", name := "isFree", desc := "()Z" } : Jvm.MethodName)) ∈ lw_tbl := lw_at lw_m4 202 rfl
theorem q1046 : (Jvm.Cond.instanceMethod ({ cls := "FootOut$Walk", name := "isFree", desc := "()Z" } : Jvm.MethodName)) ∈ lw_all := lw_g (lw_at lw_m4 203 rfl) rfl
theorem q1047 : (Jvm.Cond.code ({ cls := "FootOut$Walk", name := "isFree", desc := "()Z" } : Jvm.MethodName) prog_19_method_10_code (2 : Nat) (Option.some Jvm.ClassFile.FieldType.boolean)) ∈ lw_all := lw_g (lw_at lw_m4 204 rfl) rfl
theorem q1048 : (Jvm.Cond.methodLink "FootOut$Walk" (102 : Nat) ({ cls := "FootOut$Walk", name := "isHidden", desc := "(I)Z" } : Jvm.MethodName)) ∈ lw_all := lw_g (lw_at lw_m4 205 rfl) rfl
theorem q1049 : (Jvm.Cond.privateMethod ({ cls := "FootOut$Walk", name := "isHidden", desc := "(I)Z" } : Jvm.MethodName)) ∈ lw_tbl := lw_at lw_m4 206 rfl
theorem q1050 : (Jvm.Cond.instanceMethod ({ cls := "FootOut$Walk", name := "isHidden", desc := "(I)Z" } : Jvm.MethodName)) ∈ lw_all := lw_g (lw_at lw_m4 207 rfl) rfl
theorem q1051 : (Jvm.Cond.code ({ cls := "FootOut$Walk", name := "isHidden", desc := "(I)Z" } : Jvm.MethodName) prog_19_method_9_code (3 : Nat) (Option.some Jvm.ClassFile.FieldType.boolean)) ∈ lw_all := lw_g (lw_at lw_m4 208 rfl) rfl
theorem q1052 : (Jvm.Cond.constantLong "FootOut$Walk" (100 : Nat) (3 : Int64)) ∈ lw_all := lw_g (lw_at lw_m4 209 rfl) rfl
theorem q1053 : (Jvm.Cond.methodLink "FootOut$Walk" (113 : Nat) ({ cls := "FootOut$Walk", name := "isAtKerb", desc := "()Z" } : Jvm.MethodName)) ∈ lw_all := lw_g (lw_at lw_m4 210 rfl) rfl
theorem q1054 : (Jvm.Cond.instanceMethod ({ cls := "FootOut$Walk", name := "isAtKerb", desc := "()Z" } : Jvm.MethodName)) ∈ lw_all := lw_g (lw_at lw_m4 211 rfl) rfl
theorem q1055 : (Jvm.Cond.selects "FootOut$Walk" ({ cls := "FootOut$Walk", name := "isAtKerb", desc := "()Z" } : Jvm.MethodName) ({ cls := "FootOut$Walk", name := "isAtKerb", desc := "()Z" } : Jvm.MethodName)) ∈ lw_all := lw_g (lw_at lw_m4 212 rfl) rfl
theorem q1056 : (Jvm.Cond.code ({ cls := "FootOut$Walk", name := "isAtKerb", desc := "()Z" } : Jvm.MethodName) prog_19_method_8_code (1 : Nat) (Option.some Jvm.ClassFile.FieldType.boolean)) ∈ lw_all := lw_g (lw_at lw_m4 213 rfl) rfl
theorem q1057 : (Jvm.Cond.methodLinkNest "FootOut$Walk" (122 : Nat) ({ cls := "FootOut", name := "has", desc := "(II)Z" } : Jvm.MethodName) "FootOut") ∈ lw_tbl := lw_at lw_m4 214 rfl
theorem q1058 : (Jvm.Cond.methodLink "FootOut$Walk" (129 : Nat) ({ cls := "FootOut$Walk", name := "moves", desc := "(I)I" } : Jvm.MethodName)) ∈ lw_all := lw_g (lw_at lw_m4 215 rfl) rfl
theorem q1059 : (Jvm.Cond.privateMethod ({ cls := "FootOut$Walk", name := "moves", desc := "(I)I" } : Jvm.MethodName)) ∈ lw_tbl := lw_at lw_m4 216 rfl
theorem q1060 : (Jvm.Cond.instanceMethod ({ cls := "FootOut$Walk", name := "moves", desc := "(I)I" } : Jvm.MethodName)) ∈ lw_all := lw_g (lw_at lw_m4 217 rfl) rfl
theorem q1061 : (Jvm.Cond.code ({ cls := "FootOut$Walk", name := "moves", desc := "(I)I" } : Jvm.MethodName) prog_19_method_14_code (5 : Nat) (Option.some Jvm.ClassFile.FieldType.int)) ∈ lw_all := lw_g (lw_at lw_m4 218 rfl) rfl
theorem q1062 : (Jvm.Cond.methodLink "FootOut$Walk" (136 : Nat) ({ cls := "FootOut$Walk", name := "nearest", desc := "(I)I" } : Jvm.MethodName)) ∈ lw_all := lw_g (lw_at lw_m4 219 rfl) rfl
theorem q1063 : (Jvm.Cond.privateMethod ({ cls := "FootOut$Walk", name := "nearest", desc := "(I)I" } : Jvm.MethodName)) ∈ lw_tbl := lw_at lw_m4 220 rfl
theorem q1064 : (Jvm.Cond.instanceMethod ({ cls := "FootOut$Walk", name := "nearest", desc := "(I)I" } : Jvm.MethodName)) ∈ lw_all := lw_g (lw_at lw_m4 221 rfl) rfl
theorem q1065 : (Jvm.Cond.code ({ cls := "FootOut$Walk", name := "nearest", desc := "(I)I" } : Jvm.MethodName) prog_19_method_13_code (4 : Nat) (Option.some Jvm.ClassFile.FieldType.int)) ∈ lw_all := lw_g (lw_at lw_m4 222 rfl) rfl
theorem q1066 : (Jvm.Cond.methodLink "FootOut$Walk" (139 : Nat) ({ cls := "FootOut$Walk", name := "goes", desc := "(II)V" } : Jvm.MethodName)) ∈ lw_all := lw_g (lw_at lw_m4 223 rfl) rfl
theorem q1067 : (Jvm.Cond.privateMethod ({ cls := "FootOut$Walk", name := "goes", desc := "(II)V" } : Jvm.MethodName)) ∈ lw_tbl := lw_at lw_m4 224 rfl
theorem q1068 : (Jvm.Cond.instanceMethod ({ cls := "FootOut$Walk", name := "goes", desc := "(II)V" } : Jvm.MethodName)) ∈ lw_all := lw_g (lw_at lw_m4 225 rfl) rfl
theorem q1069 : (Jvm.Cond.code ({ cls := "FootOut$Walk", name := "goes", desc := "(II)V" } : Jvm.MethodName) prog_19_method_15_code (5 : Nat) (Option.none : Option Jvm.ClassFile.FieldType)) ∈ lw_all := lw_g (lw_at lw_m4 226 rfl) rfl
theorem q1070 : (Jvm.Cond.methodLink "FootOut$Walk" (149 : Nat) ({ cls := "java/lang/Math", name := "max", desc := "(II)I" } : Jvm.MethodName)) ∈ lw_all := lw_g (lw_at lw_m4 227 rfl) rfl
theorem q1071 : (Jvm.Cond.methodLink "FootOut$Walk" (143 : Nat) ({ cls := "java/lang/Math", name := "min", desc := "(II)I" } : Jvm.MethodName)) ∈ lw_all := lw_g (lw_at lw_m4 228 rfl) rfl
theorem q1072 : (Jvm.Cond.methodLink "FootOut$Walk" (132 : Nat) ({ cls := "FootOut$Walk", name := "crosses", desc := "(I)V" } : Jvm.MethodName)) ∈ lw_all := lw_g (lw_at lw_m4 229 rfl) rfl
theorem q1073 : (Jvm.Cond.privateMethod ({ cls := "FootOut$Walk", name := "crosses", desc := "(I)V" } : Jvm.MethodName)) ∈ lw_tbl := lw_at lw_m4 230 rfl
theorem q1074 : (Jvm.Cond.instanceMethod ({ cls := "FootOut$Walk", name := "crosses", desc := "(I)V" } : Jvm.MethodName)) ∈ lw_all := lw_g (lw_at lw_m4 231 rfl) rfl
theorem q1075 : (Jvm.Cond.code ({ cls := "FootOut$Walk", name := "crosses", desc := "(I)V" } : Jvm.MethodName) prog_19_method_12_code (2 : Nat) (Option.none : Option Jvm.ClassFile.FieldType)) ∈ lw_all := lw_g (lw_at lw_m4 232 rfl) rfl
theorem q1106 : (Jvm.Cond.instanceMethod ({ cls := "FootOut$Walk", name := "be", desc := "(LFootOut$Walk;)V" } : Jvm.MethodName)) ∈ lw_all := lw_g (lw_at lw_m5 23 rfl) rfl
theorem q1107 : (Jvm.Cond.selects "FootOut$Walk" ({ cls := "FootOut$Walk", name := "be", desc := "(LFootOut$Walk;)V" } : Jvm.MethodName) ({ cls := "FootOut$Walk", name := "be", desc := "(LFootOut$Walk;)V" } : Jvm.MethodName)) ∈ lw_all := lw_g (lw_at lw_m5 24 rfl) rfl
theorem q1108 : (Jvm.Cond.code ({ cls := "FootOut$Walk", name := "be", desc := "(LFootOut$Walk;)V" } : Jvm.MethodName) prog_19_method_3_code (3 : Nat) (Option.none : Option Jvm.ClassFile.FieldType)) ∈ lw_all := lw_g (lw_at lw_m5 25 rfl) rfl
theorem q2207 : (Jvm.Cond.castable "FootOut$Walk" "java/lang/Object") ∈ lw_tbl := lw_at lw_m9 164 rfl
theorem in_X3 : ∀ w ∈ wsX30, w ∈ lw_all := lw_in wsX30 [328, 330, 332, 334, 336, 338, 340, 342, 344, 346, 348, 350, 352] (by decide +kernel) (by decide +kernel)

/-! FootOut$Numbers -/
set_option maxRecDepth 100000
def RX4 : String := "FootOut$Numbers"
def TX4 : u_T := fun k => match k with
  | _ => ("FootOut$Numbers", "held", "Ljava/lang/Object;", false)
def tyX4 : Nat → FieldType := fun k => match k with
  | _ => .object "java/lang/Object"
abbrev wsX40 : List Cond := u_ws RX4 TX4 1
theorem nmX4 : ∀ a, a < 1 → ∀ b, b < 1 → a ≠ b → (TX4 a).2.1 ≠ (TX4 b).2.1 := by decide +kernel
theorem tyX4_ok : ∀ k, k < 1 → parseFieldDescriptor (TX4 k).2.2.1 = some (tyX4 k) := by decide +kernel
abbrev cX4_init : ByteArray := prog_8_method_1_code
def yX4_init : MethodName := ⟨RX4, "<init>", "()V"⟩
theorem dX4_init_0 : decode cX4_init 0 = .ok (.aload_n 0, 1) := by decide +kernel
theorem dX4_init_1 : decode cX4_init 1 = .ok (.invokespecial 1, 3) := by decide +kernel
theorem dX4_init_4 : decode cX4_init 4 = .ok (.return_, 1) := by decide +kernel
abbrev cX4_many : ByteArray := prog_8_method_3_code
def yX4_many : MethodName := ⟨RX4, "many", "()I"⟩
def dkwX4_many_2 : List UInt8 := [153, 0, 14, 42, 180, 0, 7, 192, 0, 19, 190, 167, 0, 11, 42, 180, 0, 7, 192, 0, 21, 190, 172]
abbrev dktX4_many_2 : List UInt8 := dkwX4_many_2 ++ []
def dkwX4_many_1 : List UInt8 := [193, 0, 17, 153, 0, 12, 42, 180, 0, 7, 192, 0, 17, 190, 172, 42, 180, 0, 7, 193, 0, 19]
abbrev dktX4_many_1 : List UInt8 := dkwX4_many_1 ++ dktX4_many_2
def dkwX4_many_0 : List UInt8 := [42, 180, 0, 7, 193, 0, 15, 153, 0, 12, 42, 180, 0, 7, 192, 0, 15, 190, 172, 42, 180, 0, 7]
abbrev dktX4_many_0 : List UInt8 := dkwX4_many_0 ++ dktX4_many_1
theorem dksX4_many_0 : cX4_many.data.toList.drop 0 = dktX4_many_0 := by decide +kernel
theorem dksX4_many_1 : cX4_many.data.toList.drop 23 = dktX4_many_1 := dk_seg dksX4_many_0 23 rfl rfl
theorem dksX4_many_2 : cX4_many.data.toList.drop 45 = dktX4_many_2 := dk_seg dksX4_many_1 22 rfl rfl
theorem dX4_many_0 : decode cX4_many 0 = .ok (.aload_n 0, 1) := dk_42 (dk_at dksX4_many_0 0 rfl rfl)
theorem dX4_many_1 : decode cX4_many 1 = .ok (.getfield 7, 3) := dk_180 0 7 (dk_at dksX4_many_0 1 rfl rfl)
theorem dX4_many_4 : decode cX4_many 4 = .ok (.instanceof 15, 3) := dk_193 0 15 (dk_at dksX4_many_0 4 rfl rfl)
theorem dX4_many_7 : decode cX4_many 7 = .ok (.ifCond .eq 12, 3) := dk_153 0 12 (dk_at dksX4_many_0 7 rfl rfl)
theorem dX4_many_10 : decode cX4_many 10 = .ok (.aload_n 0, 1) := dk_42 (dk_at dksX4_many_0 10 rfl rfl)
theorem dX4_many_11 : decode cX4_many 11 = .ok (.getfield 7, 3) := dk_180 0 7 (dk_at dksX4_many_0 11 rfl rfl)
theorem dX4_many_14 : decode cX4_many 14 = .ok (.checkcast 15, 3) := dk_192 0 15 (dk_at dksX4_many_0 14 rfl rfl)
theorem dX4_many_17 : decode cX4_many 17 = .ok (.arraylength, 1) := dk_190 (dk_at dksX4_many_0 17 rfl rfl)
theorem dX4_many_18 : decode cX4_many 18 = .ok (.ireturn, 1) := dk_172 (dk_at dksX4_many_0 18 rfl rfl)
theorem dX4_many_19 : decode cX4_many 19 = .ok (.aload_n 0, 1) := dk_42 (dk_at dksX4_many_0 19 rfl rfl)
theorem dX4_many_20 : decode cX4_many 20 = .ok (.getfield 7, 3) := dk_180 0 7 (dk_at dksX4_many_0 20 rfl rfl)
theorem dX4_many_23 : decode cX4_many 23 = .ok (.instanceof 17, 3) := dk_193 0 17 (dk_at dksX4_many_1 0 rfl rfl)
theorem dX4_many_26 : decode cX4_many 26 = .ok (.ifCond .eq 12, 3) := dk_153 0 12 (dk_at dksX4_many_1 3 rfl rfl)
theorem dX4_many_29 : decode cX4_many 29 = .ok (.aload_n 0, 1) := dk_42 (dk_at dksX4_many_1 6 rfl rfl)
theorem dX4_many_30 : decode cX4_many 30 = .ok (.getfield 7, 3) := dk_180 0 7 (dk_at dksX4_many_1 7 rfl rfl)
theorem dX4_many_33 : decode cX4_many 33 = .ok (.checkcast 17, 3) := dk_192 0 17 (dk_at dksX4_many_1 10 rfl rfl)
theorem dX4_many_36 : decode cX4_many 36 = .ok (.arraylength, 1) := dk_190 (dk_at dksX4_many_1 13 rfl rfl)
theorem dX4_many_37 : decode cX4_many 37 = .ok (.ireturn, 1) := dk_172 (dk_at dksX4_many_1 14 rfl rfl)
theorem dX4_many_38 : decode cX4_many 38 = .ok (.aload_n 0, 1) := dk_42 (dk_at dksX4_many_1 15 rfl rfl)
theorem dX4_many_39 : decode cX4_many 39 = .ok (.getfield 7, 3) := dk_180 0 7 (dk_at dksX4_many_1 16 rfl rfl)
theorem dX4_many_42 : decode cX4_many 42 = .ok (.instanceof 19, 3) := dk_193 0 19 (dk_at dksX4_many_1 19 rfl rfl)
theorem dX4_many_45 : decode cX4_many 45 = .ok (.ifCond .eq 14, 3) := dk_153 0 14 (dk_at dksX4_many_2 0 rfl rfl)
theorem dX4_many_48 : decode cX4_many 48 = .ok (.aload_n 0, 1) := dk_42 (dk_at dksX4_many_2 3 rfl rfl)
theorem dX4_many_49 : decode cX4_many 49 = .ok (.getfield 7, 3) := dk_180 0 7 (dk_at dksX4_many_2 4 rfl rfl)
theorem dX4_many_52 : decode cX4_many 52 = .ok (.checkcast 19, 3) := dk_192 0 19 (dk_at dksX4_many_2 7 rfl rfl)
theorem dX4_many_55 : decode cX4_many 55 = .ok (.arraylength, 1) := dk_190 (dk_at dksX4_many_2 10 rfl rfl)
theorem dX4_many_56 : decode cX4_many 56 = .ok (.goto 11, 3) := dk_167 0 11 (dk_at dksX4_many_2 11 rfl rfl)
theorem dX4_many_59 : decode cX4_many 59 = .ok (.aload_n 0, 1) := dk_42 (dk_at dksX4_many_2 14 rfl rfl)
theorem dX4_many_60 : decode cX4_many 60 = .ok (.getfield 7, 3) := dk_180 0 7 (dk_at dksX4_many_2 15 rfl rfl)
theorem dX4_many_63 : decode cX4_many 63 = .ok (.checkcast 21, 3) := dk_192 0 21 (dk_at dksX4_many_2 18 rfl rfl)
theorem dX4_many_66 : decode cX4_many 66 = .ok (.arraylength, 1) := dk_190 (dk_at dksX4_many_2 21 rfl rfl)
theorem dX4_many_67 : decode cX4_many 67 = .ok (.ireturn, 1) := dk_172 (dk_at dksX4_many_2 22 rfl rfl)
abbrev cX4_number : ByteArray := prog_8_method_4_code
def yX4_number : MethodName := ⟨RX4, "number", "(I)J"⟩
def dkwX4_number_3 : List UInt8 := [192, 0, 21, 27, 47, 173]
abbrev dktX4_number_3 : List UInt8 := dkwX4_number_3 ++ []
def dkwX4_number_2 : List UInt8 := [193, 0, 19, 153, 0, 16, 42, 180, 0, 7, 192, 0, 19, 27, 46, 133, 167, 0, 12, 42, 180, 0, 7]
abbrev dktX4_number_2 : List UInt8 := dkwX4_number_2 ++ dktX4_number_3
def dkwX4_number_1 : List UInt8 := [180, 0, 7, 193, 0, 17, 153, 0, 14, 42, 180, 0, 7, 192, 0, 17, 27, 53, 133, 173, 42, 180, 0, 7]
abbrev dktX4_number_1 : List UInt8 := dkwX4_number_1 ++ dktX4_number_2
def dkwX4_number_0 : List UInt8 := [42, 180, 0, 7, 193, 0, 15, 153, 0, 14, 42, 180, 0, 7, 192, 0, 15, 27, 51, 133, 173, 42]
abbrev dktX4_number_0 : List UInt8 := dkwX4_number_0 ++ dktX4_number_1
theorem dksX4_number_0 : cX4_number.data.toList.drop 0 = dktX4_number_0 := by decide +kernel
theorem dksX4_number_1 : cX4_number.data.toList.drop 22 = dktX4_number_1 := dk_seg dksX4_number_0 22 rfl rfl
theorem dksX4_number_2 : cX4_number.data.toList.drop 46 = dktX4_number_2 := dk_seg dksX4_number_1 24 rfl rfl
theorem dksX4_number_3 : cX4_number.data.toList.drop 69 = dktX4_number_3 := dk_seg dksX4_number_2 23 rfl rfl
theorem dX4_number_0 : decode cX4_number 0 = .ok (.aload_n 0, 1) := dk_42 (dk_at dksX4_number_0 0 rfl rfl)
theorem dX4_number_1 : decode cX4_number 1 = .ok (.getfield 7, 3) := dk_180 0 7 (dk_at dksX4_number_0 1 rfl rfl)
theorem dX4_number_4 : decode cX4_number 4 = .ok (.instanceof 15, 3) := dk_193 0 15 (dk_at dksX4_number_0 4 rfl rfl)
theorem dX4_number_7 : decode cX4_number 7 = .ok (.ifCond .eq 14, 3) := dk_153 0 14 (dk_at dksX4_number_0 7 rfl rfl)
theorem dX4_number_10 : decode cX4_number 10 = .ok (.aload_n 0, 1) := dk_42 (dk_at dksX4_number_0 10 rfl rfl)
theorem dX4_number_11 : decode cX4_number 11 = .ok (.getfield 7, 3) := dk_180 0 7 (dk_at dksX4_number_0 11 rfl rfl)
theorem dX4_number_14 : decode cX4_number 14 = .ok (.checkcast 15, 3) := dk_192 0 15 (dk_at dksX4_number_0 14 rfl rfl)
theorem dX4_number_17 : decode cX4_number 17 = .ok (.iload_n 1, 1) := dk_27 (dk_at dksX4_number_0 17 rfl rfl)
theorem dX4_number_18 : decode cX4_number 18 = .ok (.baload, 1) := dk_51 (dk_at dksX4_number_0 18 rfl rfl)
theorem dX4_number_19 : decode cX4_number 19 = .ok (.i2l, 1) := dk_133 (dk_at dksX4_number_0 19 rfl rfl)
theorem dX4_number_20 : decode cX4_number 20 = .ok (.lreturn, 1) := dk_173 (dk_at dksX4_number_0 20 rfl rfl)
theorem dX4_number_21 : decode cX4_number 21 = .ok (.aload_n 0, 1) := dk_42 (dk_at dksX4_number_0 21 rfl rfl)
theorem dX4_number_22 : decode cX4_number 22 = .ok (.getfield 7, 3) := dk_180 0 7 (dk_at dksX4_number_1 0 rfl rfl)
theorem dX4_number_25 : decode cX4_number 25 = .ok (.instanceof 17, 3) := dk_193 0 17 (dk_at dksX4_number_1 3 rfl rfl)
theorem dX4_number_28 : decode cX4_number 28 = .ok (.ifCond .eq 14, 3) := dk_153 0 14 (dk_at dksX4_number_1 6 rfl rfl)
theorem dX4_number_31 : decode cX4_number 31 = .ok (.aload_n 0, 1) := dk_42 (dk_at dksX4_number_1 9 rfl rfl)
theorem dX4_number_32 : decode cX4_number 32 = .ok (.getfield 7, 3) := dk_180 0 7 (dk_at dksX4_number_1 10 rfl rfl)
theorem dX4_number_35 : decode cX4_number 35 = .ok (.checkcast 17, 3) := dk_192 0 17 (dk_at dksX4_number_1 13 rfl rfl)
theorem dX4_number_38 : decode cX4_number 38 = .ok (.iload_n 1, 1) := dk_27 (dk_at dksX4_number_1 16 rfl rfl)
theorem dX4_number_39 : decode cX4_number 39 = .ok (.saload, 1) := dk_53 (dk_at dksX4_number_1 17 rfl rfl)
theorem dX4_number_40 : decode cX4_number 40 = .ok (.i2l, 1) := dk_133 (dk_at dksX4_number_1 18 rfl rfl)
theorem dX4_number_41 : decode cX4_number 41 = .ok (.lreturn, 1) := dk_173 (dk_at dksX4_number_1 19 rfl rfl)
theorem dX4_number_42 : decode cX4_number 42 = .ok (.aload_n 0, 1) := dk_42 (dk_at dksX4_number_1 20 rfl rfl)
theorem dX4_number_43 : decode cX4_number 43 = .ok (.getfield 7, 3) := dk_180 0 7 (dk_at dksX4_number_1 21 rfl rfl)
theorem dX4_number_46 : decode cX4_number 46 = .ok (.instanceof 19, 3) := dk_193 0 19 (dk_at dksX4_number_2 0 rfl rfl)
theorem dX4_number_49 : decode cX4_number 49 = .ok (.ifCond .eq 16, 3) := dk_153 0 16 (dk_at dksX4_number_2 3 rfl rfl)
theorem dX4_number_52 : decode cX4_number 52 = .ok (.aload_n 0, 1) := dk_42 (dk_at dksX4_number_2 6 rfl rfl)
theorem dX4_number_53 : decode cX4_number 53 = .ok (.getfield 7, 3) := dk_180 0 7 (dk_at dksX4_number_2 7 rfl rfl)
theorem dX4_number_56 : decode cX4_number 56 = .ok (.checkcast 19, 3) := dk_192 0 19 (dk_at dksX4_number_2 10 rfl rfl)
theorem dX4_number_59 : decode cX4_number 59 = .ok (.iload_n 1, 1) := dk_27 (dk_at dksX4_number_2 13 rfl rfl)
theorem dX4_number_60 : decode cX4_number 60 = .ok (.iaload, 1) := dk_46 (dk_at dksX4_number_2 14 rfl rfl)
theorem dX4_number_61 : decode cX4_number 61 = .ok (.i2l, 1) := dk_133 (dk_at dksX4_number_2 15 rfl rfl)
theorem dX4_number_62 : decode cX4_number 62 = .ok (.goto 12, 3) := dk_167 0 12 (dk_at dksX4_number_2 16 rfl rfl)
theorem dX4_number_65 : decode cX4_number 65 = .ok (.aload_n 0, 1) := dk_42 (dk_at dksX4_number_2 19 rfl rfl)
theorem dX4_number_66 : decode cX4_number 66 = .ok (.getfield 7, 3) := dk_180 0 7 (dk_at dksX4_number_2 20 rfl rfl)
theorem dX4_number_69 : decode cX4_number 69 = .ok (.checkcast 21, 3) := dk_192 0 21 (dk_at dksX4_number_3 0 rfl rfl)
theorem dX4_number_72 : decode cX4_number 72 = .ok (.iload_n 1, 1) := dk_27 (dk_at dksX4_number_3 3 rfl rfl)
theorem dX4_number_73 : decode cX4_number 73 = .ok (.laload, 1) := dk_47 (dk_at dksX4_number_3 4 rfl rfl)
theorem dX4_number_74 : decode cX4_number 74 = .ok (.lreturn, 1) := dk_173 (dk_at dksX4_number_3 5 rfl rfl)
abbrev cX4_begins : ByteArray := prog_8_method_2_code
def yX4_begins : MethodName := ⟨RX4, "begins", "(II)Z"⟩
def dkwX4_begins_3 : List UInt8 := [181, 0, 7, 167, 0, 10, 42, 28, 188, 11, 181, 0, 7, 4, 172, 78, 3, 172]
abbrev dktX4_begins_3 : List UInt8 := dkwX4_begins_3 ++ []
def dkwX4_begins_2 : List UInt8 := [42, 28, 188, 8, 181, 0, 7, 167, 0, 30, 42, 28, 188, 9, 181, 0, 7, 167, 0, 20, 42, 28, 188, 10]
abbrev dktX4_begins_2 : List UInt8 := dkwX4_begins_2 ++ dktX4_begins_3
def dkwX4_begins_1 : List UInt8 := [170, 0, 0, 0, 0, 0, 57, 0, 0, 0, 0, 0, 0, 0, 2, 0, 0, 0, 27, 0, 0, 0, 37, 0, 0, 0, 47]
abbrev dktX4_begins_1 : List UInt8 := dkwX4_begins_1 ++ dktX4_begins_2
def dkwX4_begins_0 : List UInt8 := [27]
abbrev dktX4_begins_0 : List UInt8 := dkwX4_begins_0 ++ dktX4_begins_1
theorem dksX4_begins_0 : cX4_begins.data.toList.drop 0 = dktX4_begins_0 := by decide +kernel
theorem dksX4_begins_1 : cX4_begins.data.toList.drop 1 = dktX4_begins_1 := dk_seg dksX4_begins_0 1 rfl rfl
theorem dksX4_begins_2 : cX4_begins.data.toList.drop 28 = dktX4_begins_2 := dk_seg dksX4_begins_1 27 rfl rfl
theorem dksX4_begins_3 : cX4_begins.data.toList.drop 52 = dktX4_begins_3 := dk_seg dksX4_begins_2 24 rfl rfl
theorem dX4_begins_0 : decode cX4_begins 0 = .ok (.iload_n 1, 1) := dk_27 (dk_at dksX4_begins_0 0 rfl rfl)
theorem dX4_begins_1 : decode cX4_begins 1 = .ok (.tableswitch 57 0 2 #[27, 37, 47], 27) := by decide +kernel
theorem dX4_begins_28 : decode cX4_begins 28 = .ok (.aload_n 0, 1) := dk_42 (dk_at dksX4_begins_2 0 rfl rfl)
theorem dX4_begins_29 : decode cX4_begins 29 = .ok (.iload_n 2, 1) := dk_28 (dk_at dksX4_begins_2 1 rfl rfl)
theorem dX4_begins_30 : decode cX4_begins 30 = .ok (.newarray .byte, 2) := dk_188_8 (dk_at dksX4_begins_2 2 rfl rfl)
theorem dX4_begins_32 : decode cX4_begins 32 = .ok (.putfield 7, 3) := dk_181 0 7 (dk_at dksX4_begins_2 4 rfl rfl)
theorem dX4_begins_35 : decode cX4_begins 35 = .ok (.goto 30, 3) := dk_167 0 30 (dk_at dksX4_begins_2 7 rfl rfl)
theorem dX4_begins_38 : decode cX4_begins 38 = .ok (.aload_n 0, 1) := dk_42 (dk_at dksX4_begins_2 10 rfl rfl)
theorem dX4_begins_39 : decode cX4_begins 39 = .ok (.iload_n 2, 1) := dk_28 (dk_at dksX4_begins_2 11 rfl rfl)
theorem dX4_begins_40 : decode cX4_begins 40 = .ok (.newarray .short, 2) := dk_188_9 (dk_at dksX4_begins_2 12 rfl rfl)
theorem dX4_begins_42 : decode cX4_begins 42 = .ok (.putfield 7, 3) := dk_181 0 7 (dk_at dksX4_begins_2 14 rfl rfl)
theorem dX4_begins_45 : decode cX4_begins 45 = .ok (.goto 20, 3) := dk_167 0 20 (dk_at dksX4_begins_2 17 rfl rfl)
theorem dX4_begins_48 : decode cX4_begins 48 = .ok (.aload_n 0, 1) := dk_42 (dk_at dksX4_begins_2 20 rfl rfl)
theorem dX4_begins_49 : decode cX4_begins 49 = .ok (.iload_n 2, 1) := dk_28 (dk_at dksX4_begins_2 21 rfl rfl)
theorem dX4_begins_50 : decode cX4_begins 50 = .ok (.newarray .int, 2) := dk_188_10 (dk_at dksX4_begins_2 22 rfl rfl)
theorem dX4_begins_52 : decode cX4_begins 52 = .ok (.putfield 7, 3) := dk_181 0 7 (dk_at dksX4_begins_3 0 rfl rfl)
theorem dX4_begins_55 : decode cX4_begins 55 = .ok (.goto 10, 3) := dk_167 0 10 (dk_at dksX4_begins_3 3 rfl rfl)
theorem dX4_begins_58 : decode cX4_begins 58 = .ok (.aload_n 0, 1) := dk_42 (dk_at dksX4_begins_3 6 rfl rfl)
theorem dX4_begins_59 : decode cX4_begins 59 = .ok (.iload_n 2, 1) := dk_28 (dk_at dksX4_begins_3 7 rfl rfl)
theorem dX4_begins_60 : decode cX4_begins 60 = .ok (.newarray .long, 2) := dk_188_11 (dk_at dksX4_begins_3 8 rfl rfl)
theorem dX4_begins_62 : decode cX4_begins 62 = .ok (.putfield 7, 3) := dk_181 0 7 (dk_at dksX4_begins_3 10 rfl rfl)
theorem dX4_begins_65 : decode cX4_begins 65 = .ok (.iconst 1, 1) := dk_4 (dk_at dksX4_begins_3 13 rfl rfl)
theorem dX4_begins_66 : decode cX4_begins 66 = .ok (.ireturn, 1) := dk_172 (dk_at dksX4_begins_3 14 rfl rfl)
theorem dX4_begins_67 : decode cX4_begins 67 = .ok (.astore_n 3, 1) := dk_78 (dk_at dksX4_begins_3 15 rfl rfl)
theorem dX4_begins_68 : decode cX4_begins 68 = .ok (.iconst 0, 1) := dk_3 (dk_at dksX4_begins_3 16 rfl rfl)
theorem dX4_begins_69 : decode cX4_begins 69 = .ok (.ireturn, 1) := dk_172 (dk_at dksX4_begins_3 17 rfl rfl)
abbrev cX4_puts : ByteArray := prog_8_method_5_code
def yX4_puts : MethodName := ⟨RX4, "puts", "(IJ)V"⟩
def dkwX4_puts_3 : List UInt8 := [79, 167, 0, 13, 42, 180, 0, 7, 192, 0, 21, 27, 32, 80, 177]
abbrev dktX4_puts_3 : List UInt8 := dkwX4_puts_3 ++ []
def dkwX4_puts_2 : List UInt8 := [86, 167, 0, 37, 42, 180, 0, 7, 193, 0, 19, 153, 0, 17, 42, 180, 0, 7, 192, 0, 19, 27, 32, 136]
abbrev dktX4_puts_2 : List UInt8 := dkwX4_puts_2 ++ dktX4_puts_3
def dkwX4_puts_1 : List UInt8 := [167, 0, 62, 42, 180, 0, 7, 193, 0, 17, 153, 0, 18, 42, 180, 0, 7, 192, 0, 17, 27, 32, 136, 147]
abbrev dktX4_puts_1 : List UInt8 := dkwX4_puts_1 ++ dktX4_puts_2
def dkwX4_puts_0 : List UInt8 := [42, 180, 0, 7, 193, 0, 15, 153, 0, 18, 42, 180, 0, 7, 192, 0, 15, 27, 32, 136, 145, 84]
abbrev dktX4_puts_0 : List UInt8 := dkwX4_puts_0 ++ dktX4_puts_1
theorem dksX4_puts_0 : cX4_puts.data.toList.drop 0 = dktX4_puts_0 := by decide +kernel
theorem dksX4_puts_1 : cX4_puts.data.toList.drop 22 = dktX4_puts_1 := dk_seg dksX4_puts_0 22 rfl rfl
theorem dksX4_puts_2 : cX4_puts.data.toList.drop 46 = dktX4_puts_2 := dk_seg dksX4_puts_1 24 rfl rfl
theorem dksX4_puts_3 : cX4_puts.data.toList.drop 70 = dktX4_puts_3 := dk_seg dksX4_puts_2 24 rfl rfl
theorem dX4_puts_0 : decode cX4_puts 0 = .ok (.aload_n 0, 1) := dk_42 (dk_at dksX4_puts_0 0 rfl rfl)
theorem dX4_puts_1 : decode cX4_puts 1 = .ok (.getfield 7, 3) := dk_180 0 7 (dk_at dksX4_puts_0 1 rfl rfl)
theorem dX4_puts_4 : decode cX4_puts 4 = .ok (.instanceof 15, 3) := dk_193 0 15 (dk_at dksX4_puts_0 4 rfl rfl)
theorem dX4_puts_7 : decode cX4_puts 7 = .ok (.ifCond .eq 18, 3) := dk_153 0 18 (dk_at dksX4_puts_0 7 rfl rfl)
theorem dX4_puts_10 : decode cX4_puts 10 = .ok (.aload_n 0, 1) := dk_42 (dk_at dksX4_puts_0 10 rfl rfl)
theorem dX4_puts_11 : decode cX4_puts 11 = .ok (.getfield 7, 3) := dk_180 0 7 (dk_at dksX4_puts_0 11 rfl rfl)
theorem dX4_puts_14 : decode cX4_puts 14 = .ok (.checkcast 15, 3) := dk_192 0 15 (dk_at dksX4_puts_0 14 rfl rfl)
theorem dX4_puts_17 : decode cX4_puts 17 = .ok (.iload_n 1, 1) := dk_27 (dk_at dksX4_puts_0 17 rfl rfl)
theorem dX4_puts_18 : decode cX4_puts 18 = .ok (.lload_n 2, 1) := dk_32 (dk_at dksX4_puts_0 18 rfl rfl)
theorem dX4_puts_19 : decode cX4_puts 19 = .ok (.l2i, 1) := dk_136 (dk_at dksX4_puts_0 19 rfl rfl)
theorem dX4_puts_20 : decode cX4_puts 20 = .ok (.i2b, 1) := dk_145 (dk_at dksX4_puts_0 20 rfl rfl)
theorem dX4_puts_21 : decode cX4_puts 21 = .ok (.bastore, 1) := dk_84 (dk_at dksX4_puts_0 21 rfl rfl)
theorem dX4_puts_22 : decode cX4_puts 22 = .ok (.goto 62, 3) := dk_167 0 62 (dk_at dksX4_puts_1 0 rfl rfl)
theorem dX4_puts_25 : decode cX4_puts 25 = .ok (.aload_n 0, 1) := dk_42 (dk_at dksX4_puts_1 3 rfl rfl)
theorem dX4_puts_26 : decode cX4_puts 26 = .ok (.getfield 7, 3) := dk_180 0 7 (dk_at dksX4_puts_1 4 rfl rfl)
theorem dX4_puts_29 : decode cX4_puts 29 = .ok (.instanceof 17, 3) := dk_193 0 17 (dk_at dksX4_puts_1 7 rfl rfl)
theorem dX4_puts_32 : decode cX4_puts 32 = .ok (.ifCond .eq 18, 3) := dk_153 0 18 (dk_at dksX4_puts_1 10 rfl rfl)
theorem dX4_puts_35 : decode cX4_puts 35 = .ok (.aload_n 0, 1) := dk_42 (dk_at dksX4_puts_1 13 rfl rfl)
theorem dX4_puts_36 : decode cX4_puts 36 = .ok (.getfield 7, 3) := dk_180 0 7 (dk_at dksX4_puts_1 14 rfl rfl)
theorem dX4_puts_39 : decode cX4_puts 39 = .ok (.checkcast 17, 3) := dk_192 0 17 (dk_at dksX4_puts_1 17 rfl rfl)
theorem dX4_puts_42 : decode cX4_puts 42 = .ok (.iload_n 1, 1) := dk_27 (dk_at dksX4_puts_1 20 rfl rfl)
theorem dX4_puts_43 : decode cX4_puts 43 = .ok (.lload_n 2, 1) := dk_32 (dk_at dksX4_puts_1 21 rfl rfl)
theorem dX4_puts_44 : decode cX4_puts 44 = .ok (.l2i, 1) := dk_136 (dk_at dksX4_puts_1 22 rfl rfl)
theorem dX4_puts_45 : decode cX4_puts 45 = .ok (.i2s, 1) := dk_147 (dk_at dksX4_puts_1 23 rfl rfl)
theorem dX4_puts_46 : decode cX4_puts 46 = .ok (.sastore, 1) := dk_86 (dk_at dksX4_puts_2 0 rfl rfl)
theorem dX4_puts_47 : decode cX4_puts 47 = .ok (.goto 37, 3) := dk_167 0 37 (dk_at dksX4_puts_2 1 rfl rfl)
theorem dX4_puts_50 : decode cX4_puts 50 = .ok (.aload_n 0, 1) := dk_42 (dk_at dksX4_puts_2 4 rfl rfl)
theorem dX4_puts_51 : decode cX4_puts 51 = .ok (.getfield 7, 3) := dk_180 0 7 (dk_at dksX4_puts_2 5 rfl rfl)
theorem dX4_puts_54 : decode cX4_puts 54 = .ok (.instanceof 19, 3) := dk_193 0 19 (dk_at dksX4_puts_2 8 rfl rfl)
theorem dX4_puts_57 : decode cX4_puts 57 = .ok (.ifCond .eq 17, 3) := dk_153 0 17 (dk_at dksX4_puts_2 11 rfl rfl)
theorem dX4_puts_60 : decode cX4_puts 60 = .ok (.aload_n 0, 1) := dk_42 (dk_at dksX4_puts_2 14 rfl rfl)
theorem dX4_puts_61 : decode cX4_puts 61 = .ok (.getfield 7, 3) := dk_180 0 7 (dk_at dksX4_puts_2 15 rfl rfl)
theorem dX4_puts_64 : decode cX4_puts 64 = .ok (.checkcast 19, 3) := dk_192 0 19 (dk_at dksX4_puts_2 18 rfl rfl)
theorem dX4_puts_67 : decode cX4_puts 67 = .ok (.iload_n 1, 1) := dk_27 (dk_at dksX4_puts_2 21 rfl rfl)
theorem dX4_puts_68 : decode cX4_puts 68 = .ok (.lload_n 2, 1) := dk_32 (dk_at dksX4_puts_2 22 rfl rfl)
theorem dX4_puts_69 : decode cX4_puts 69 = .ok (.l2i, 1) := dk_136 (dk_at dksX4_puts_2 23 rfl rfl)
theorem dX4_puts_70 : decode cX4_puts 70 = .ok (.iastore, 1) := dk_79 (dk_at dksX4_puts_3 0 rfl rfl)
theorem dX4_puts_71 : decode cX4_puts 71 = .ok (.goto 13, 3) := dk_167 0 13 (dk_at dksX4_puts_3 1 rfl rfl)
theorem dX4_puts_74 : decode cX4_puts 74 = .ok (.aload_n 0, 1) := dk_42 (dk_at dksX4_puts_3 4 rfl rfl)
theorem dX4_puts_75 : decode cX4_puts 75 = .ok (.getfield 7, 3) := dk_180 0 7 (dk_at dksX4_puts_3 5 rfl rfl)
theorem dX4_puts_78 : decode cX4_puts 78 = .ok (.checkcast 21, 3) := dk_192 0 21 (dk_at dksX4_puts_3 8 rfl rfl)
theorem dX4_puts_81 : decode cX4_puts 81 = .ok (.iload_n 1, 1) := dk_27 (dk_at dksX4_puts_3 11 rfl rfl)
theorem dX4_puts_82 : decode cX4_puts 82 = .ok (.lload_n 2, 1) := dk_32 (dk_at dksX4_puts_3 12 rfl rfl)
theorem dX4_puts_83 : decode cX4_puts 83 = .ok (.lastore, 1) := dk_80 (dk_at dksX4_puts_3 13 rfl rfl)
theorem dX4_puts_84 : decode cX4_puts 84 = .ok (.return_, 1) := dk_177 (dk_at dksX4_puts_3 14 rfl rfl)
theorem q131 : (Jvm.Cond.initialized "FootOut$Numbers") ∈ lw_all := lw_g (lw_at lw_m1 8 rfl) rfl
theorem q363 : (Jvm.Cond.instantiable "FootOut$Numbers" (1 : Nat)) ∈ lw_all := lw_g (lw_at lw_m2 0 rfl) rfl
theorem q365 : (Jvm.Cond.instanceMethod ({ cls := "FootOut$Numbers", name := "<init>", desc := "()V" } : Jvm.MethodName)) ∈ lw_all := lw_g (lw_at lw_m2 2 rfl) rfl
theorem q366 : (Jvm.Cond.code ({ cls := "FootOut$Numbers", name := "<init>", desc := "()V" } : Jvm.MethodName) prog_8_method_1_code (1 : Nat) (Option.none : Option Jvm.ClassFile.FieldType)) ∈ lw_all := lw_g (lw_at lw_m2 3 rfl) rfl
theorem q367 : (Jvm.Cond.methodLink "FootOut$Numbers" (1 : Nat) ({ cls := "java/lang/Object", name := "<init>", desc := "()V" } : Jvm.MethodName)) ∈ lw_all := lw_g (lw_at lw_m2 4 rfl) rfl
theorem q368 : (Jvm.Cond.fieldLink "FootOut$Numbers" (7 : Nat) "FootOut$Numbers" "held" "Ljava/lang/Object;") ∈ lw_all := lw_g (lw_at lw_m2 5 rfl) rfl
theorem q370 : (Jvm.Cond.lays "FootOut$Numbers" "FootOut$Numbers" "held" "Ljava/lang/Object;") ∈ lw_all := lw_g (lw_at lw_m2 7 rfl) rfl
theorem q371 : (Jvm.Cond.soleField "FootOut$Numbers" "held") ∈ lw_all := lw_g (lw_at lw_m2 8 rfl) rfl
theorem q372 : (Jvm.Cond.superclass "FootOut$Numbers" "java/lang/Object") ∈ lw_all := lw_g (lw_at lw_m2 9 rfl) rfl
theorem q683 : (Jvm.Cond.selects "FootOut$Numbers" ({ cls := "java/lang/Object", name := "getClass", desc := "()Ljava/lang/Class;" } : Jvm.MethodName) ({ cls := "java/lang/Object", name := "getClass", desc := "()Ljava/lang/Class;" } : Jvm.MethodName)) ∈ lw_all := lw_g (lw_at lw_m3 80 rfl) rfl
theorem q1366 : (Jvm.Cond.instanceMethod ({ cls := "FootOut$Numbers", name := "many", desc := "()I" } : Jvm.MethodName)) ∈ lw_all := lw_g (lw_at lw_m6 43 rfl) rfl
theorem q1367 : (Jvm.Cond.selects "FootOut$Numbers" ({ cls := "FootOut$Numbers", name := "many", desc := "()I" } : Jvm.MethodName) ({ cls := "FootOut$Numbers", name := "many", desc := "()I" } : Jvm.MethodName)) ∈ lw_all := lw_g (lw_at lw_m6 44 rfl) rfl
theorem q1368 : (Jvm.Cond.code ({ cls := "FootOut$Numbers", name := "many", desc := "()I" } : Jvm.MethodName) prog_8_method_3_code (1 : Nat) (Option.some Jvm.ClassFile.FieldType.int)) ∈ lw_all := lw_g (lw_at lw_m6 45 rfl) rfl
theorem q1369 : (Jvm.Cond.classLink "FootOut$Numbers" (15 : Nat) "[B") ∈ lw_all := lw_g (lw_at lw_m6 46 rfl) rfl
theorem q1370 : (Jvm.Cond.classLink "FootOut$Numbers" (17 : Nat) "[S") ∈ lw_all := lw_g (lw_at lw_m6 47 rfl) rfl
theorem q1371 : (Jvm.Cond.classLink "FootOut$Numbers" (19 : Nat) "[I") ∈ lw_all := lw_g (lw_at lw_m6 48 rfl) rfl
theorem q1372 : (Jvm.Cond.classLink "FootOut$Numbers" (21 : Nat) "[J") ∈ lw_all := lw_g (lw_at lw_m6 49 rfl) rfl
theorem q1374 : (Jvm.Cond.instanceMethod ({ cls := "FootOut$Numbers", name := "number", desc := "(I)J" } : Jvm.MethodName)) ∈ lw_all := lw_g (lw_at lw_m6 51 rfl) rfl
theorem q1375 : (Jvm.Cond.selects "FootOut$Numbers" ({ cls := "FootOut$Numbers", name := "number", desc := "(I)J" } : Jvm.MethodName) ({ cls := "FootOut$Numbers", name := "number", desc := "(I)J" } : Jvm.MethodName)) ∈ lw_all := lw_g (lw_at lw_m6 52 rfl) rfl
theorem q1376 : (Jvm.Cond.code ({ cls := "FootOut$Numbers", name := "number", desc := "(I)J" } : Jvm.MethodName) prog_8_method_4_code (2 : Nat) (Option.some Jvm.ClassFile.FieldType.long)) ∈ lw_all := lw_g (lw_at lw_m6 53 rfl) rfl
theorem q1440 : (Jvm.Cond.instanceMethod ({ cls := "FootOut$Numbers", name := "begins", desc := "(II)Z" } : Jvm.MethodName)) ∈ lw_all := lw_g (lw_at lw_m6 117 rfl) rfl
theorem q1441 : (Jvm.Cond.selects "FootOut$Numbers" ({ cls := "FootOut$Numbers", name := "begins", desc := "(II)Z" } : Jvm.MethodName) ({ cls := "FootOut$Numbers", name := "begins", desc := "(II)Z" } : Jvm.MethodName)) ∈ lw_all := lw_g (lw_at lw_m6 118 rfl) rfl
theorem q1442 : (Jvm.Cond.codeWith ({ cls := "FootOut$Numbers", name := "begins", desc := "(II)Z" } : Jvm.MethodName) prog_8_method_2_code (4 : Nat) (Option.some Jvm.ClassFile.FieldType.boolean) [((0 : Nat), (66 : Nat), (67 : Nat), (13 : Nat))]) ∈ lw_all := lw_g (lw_at lw_m6 119 rfl) rfl
theorem q1443 : (Jvm.Cond.classLink "FootOut$Numbers" (13 : Nat) "java/lang/NegativeArraySizeException") ∈ lw_all := lw_g (lw_at lw_m6 120 rfl) rfl
theorem q1576 : (Jvm.Cond.instanceMethod ({ cls := "FootOut$Numbers", name := "puts", desc := "(IJ)V" } : Jvm.MethodName)) ∈ lw_all := lw_g (lw_at lw_m7 13 rfl) rfl
theorem q1577 : (Jvm.Cond.selects "FootOut$Numbers" ({ cls := "FootOut$Numbers", name := "puts", desc := "(IJ)V" } : Jvm.MethodName) ({ cls := "FootOut$Numbers", name := "puts", desc := "(IJ)V" } : Jvm.MethodName)) ∈ lw_all := lw_g (lw_at lw_m7 14 rfl) rfl
theorem q1578 : (Jvm.Cond.code ({ cls := "FootOut$Numbers", name := "puts", desc := "(IJ)V" } : Jvm.MethodName) prog_8_method_5_code (4 : Nat) (Option.none : Option Jvm.ClassFile.FieldType)) ∈ lw_all := lw_g (lw_at lw_m7 15 rfl) rfl
theorem q2208 : (Jvm.Cond.castable "FootOut$Numbers" "java/lang/Object") ∈ lw_tbl := lw_at lw_m9 165 rfl
theorem in_X4 : ∀ w ∈ wsX40, w ∈ lw_all := lw_in wsX40 [370] (by decide +kernel) (by decide +kernel)

/-! FootOut$Reader -/
set_option maxRecDepth 100000
def RX6 : String := "FootOut$Reader"
def TX6 : u_T := fun k => match k with
  | 0 => ("FootOut$Reader", "size", "I", true)
  | 1 => ("FootOut$Reader", "scene", "LFootOut$Scene;", true)
  | 2 => ("FootOut$Reader", "law", "Ljava/util/ArrayList;", true)
  | 3 => ("FootOut$Reader", "at", "I", false)
  | 4 => ("FootOut$Reader", "begin", "I", false)
  | 5 => ("FootOut$Reader", "token", "I", false)
  | 6 => ("FootOut$Reader", "value", "I", false)
  | 7 => ("FootOut$Reader", "open", "I", false)
  | 8 => ("FootOut$Reader", "fault", "I", false)
  | 9 => ("FootOut$Reader", "place", "I", false)
  | _ => ("FootOut$Reader", "this$0", "LFootOut;", true)
def tyX6 : Nat → FieldType := fun k => match k with
  | 0 => .int
  | 1 => .object "FootOut$Scene"
  | 2 => .object "java/util/ArrayList"
  | 3 => .int
  | 4 => .int
  | 5 => .int
  | 6 => .int
  | 7 => .int
  | 8 => .int
  | 9 => .int
  | _ => .object "FootOut"
abbrev wsX60 : List Cond := u_ws RX6 TX6 11
theorem nmX6 : ∀ a, a < 11 → ∀ b, b < 11 → a ≠ b → (TX6 a).2.1 ≠ (TX6 b).2.1 := by decide +kernel
theorem tyX6_ok : ∀ k, k < 11 → parseFieldDescriptor (TX6 k).2.2.1 = some (tyX6 k) := by decide +kernel
abbrev cX6_init : ByteArray := prog_13_method_1_code
def yX6_init : MethodName := ⟨RX6, "<init>", "(LFootOut;I)V"⟩
def dkwX6_init_1 : List UInt8 := [89, 5, 183, 0, 24, 181, 0, 27, 42, 2, 181, 0, 31, 42, 28, 181, 0, 35, 177]
abbrev dktX6_init_1 : List UInt8 := dkwX6_init_1 ++ []
def dkwX6_init_0 : List UInt8 := [42, 43, 181, 0, 3, 42, 183, 0, 9, 42, 187, 0, 15, 89, 183, 0, 17, 181, 0, 18, 42, 187, 0, 22]
abbrev dktX6_init_0 : List UInt8 := dkwX6_init_0 ++ dktX6_init_1
theorem dksX6_init_0 : cX6_init.data.toList.drop 0 = dktX6_init_0 := by decide +kernel
theorem dksX6_init_1 : cX6_init.data.toList.drop 24 = dktX6_init_1 := dk_seg dksX6_init_0 24 rfl rfl
theorem dX6_init_0 : decode cX6_init 0 = .ok (.aload_n 0, 1) := dk_42 (dk_at dksX6_init_0 0 rfl rfl)
theorem dX6_init_1 : decode cX6_init 1 = .ok (.aload_n 1, 1) := dk_43 (dk_at dksX6_init_0 1 rfl rfl)
theorem dX6_init_2 : decode cX6_init 2 = .ok (.putfield 3, 3) := dk_181 0 3 (dk_at dksX6_init_0 2 rfl rfl)
theorem dX6_init_5 : decode cX6_init 5 = .ok (.aload_n 0, 1) := dk_42 (dk_at dksX6_init_0 5 rfl rfl)
theorem dX6_init_6 : decode cX6_init 6 = .ok (.invokespecial 9, 3) := dk_183 0 9 (dk_at dksX6_init_0 6 rfl rfl)
theorem dX6_init_9 : decode cX6_init 9 = .ok (.aload_n 0, 1) := dk_42 (dk_at dksX6_init_0 9 rfl rfl)
theorem dX6_init_10 : decode cX6_init 10 = .ok (.new 15, 3) := dk_187 0 15 (dk_at dksX6_init_0 10 rfl rfl)
theorem dX6_init_13 : decode cX6_init 13 = .ok (.dup, 1) := dk_89 (dk_at dksX6_init_0 13 rfl rfl)
theorem dX6_init_14 : decode cX6_init 14 = .ok (.invokespecial 17, 3) := dk_183 0 17 (dk_at dksX6_init_0 14 rfl rfl)
theorem dX6_init_17 : decode cX6_init 17 = .ok (.putfield 18, 3) := dk_181 0 18 (dk_at dksX6_init_0 17 rfl rfl)
theorem dX6_init_20 : decode cX6_init 20 = .ok (.aload_n 0, 1) := dk_42 (dk_at dksX6_init_0 20 rfl rfl)
theorem dX6_init_21 : decode cX6_init 21 = .ok (.new 22, 3) := dk_187 0 22 (dk_at dksX6_init_0 21 rfl rfl)
theorem dX6_init_24 : decode cX6_init 24 = .ok (.dup, 1) := dk_89 (dk_at dksX6_init_1 0 rfl rfl)
theorem dX6_init_25 : decode cX6_init 25 = .ok (.iconst 2, 1) := dk_5 (dk_at dksX6_init_1 1 rfl rfl)
theorem dX6_init_26 : decode cX6_init 26 = .ok (.invokespecial 24, 3) := dk_183 0 24 (dk_at dksX6_init_1 2 rfl rfl)
theorem dX6_init_29 : decode cX6_init 29 = .ok (.putfield 27, 3) := dk_181 0 27 (dk_at dksX6_init_1 5 rfl rfl)
theorem dX6_init_32 : decode cX6_init 32 = .ok (.aload_n 0, 1) := dk_42 (dk_at dksX6_init_1 8 rfl rfl)
theorem dX6_init_33 : decode cX6_init 33 = .ok (.iconst (-1), 1) := dk_2 (dk_at dksX6_init_1 9 rfl rfl)
theorem dX6_init_34 : decode cX6_init 34 = .ok (.putfield 31, 3) := dk_181 0 31 (dk_at dksX6_init_1 10 rfl rfl)
theorem dX6_init_37 : decode cX6_init 37 = .ok (.aload_n 0, 1) := dk_42 (dk_at dksX6_init_1 13 rfl rfl)
theorem dX6_init_38 : decode cX6_init 38 = .ok (.iload_n 2, 1) := dk_28 (dk_at dksX6_init_1 14 rfl rfl)
theorem dX6_init_39 : decode cX6_init 39 = .ok (.putfield 35, 3) := dk_181 0 35 (dk_at dksX6_init_1 15 rfl rfl)
theorem dX6_init_42 : decode cX6_init 42 = .ok (.return_, 1) := dk_177 (dk_at dksX6_init_1 18 rfl rfl)
abbrev cX6_scene : ByteArray := prog_13_method_14_code
def yX6_scene : MethodName := ⟨RX6, "scene", "()V"⟩
def dkwX6_scene_1 : List UInt8 := [182, 0, 126, 42, 180, 0, 18, 89, 180, 0, 129, 4, 96, 181, 0, 129, 167, 255, 221, 177]
abbrev dktX6_scene_1 : List UInt8 := dkwX6_scene_1 ++ []
def dkwX6_scene_0 : List UInt8 := [42, 182, 0, 94, 42, 180, 0, 77, 154, 0, 34, 42, 180, 0, 64, 153, 0, 27, 42, 182, 0, 123, 42]
abbrev dktX6_scene_0 : List UInt8 := dkwX6_scene_0 ++ dktX6_scene_1
theorem dksX6_scene_0 : cX6_scene.data.toList.drop 0 = dktX6_scene_0 := by decide +kernel
theorem dksX6_scene_1 : cX6_scene.data.toList.drop 23 = dktX6_scene_1 := dk_seg dksX6_scene_0 23 rfl rfl
theorem dX6_scene_0 : decode cX6_scene 0 = .ok (.aload_n 0, 1) := dk_42 (dk_at dksX6_scene_0 0 rfl rfl)
theorem dX6_scene_1 : decode cX6_scene 1 = .ok (.invokevirtual 94, 3) := dk_182 0 94 (dk_at dksX6_scene_0 1 rfl rfl)
theorem dX6_scene_4 : decode cX6_scene 4 = .ok (.aload_n 0, 1) := dk_42 (dk_at dksX6_scene_0 4 rfl rfl)
theorem dX6_scene_5 : decode cX6_scene 5 = .ok (.getfield 77, 3) := dk_180 0 77 (dk_at dksX6_scene_0 5 rfl rfl)
theorem dX6_scene_8 : decode cX6_scene 8 = .ok (.ifCond .ne 34, 3) := dk_154 0 34 (dk_at dksX6_scene_0 8 rfl rfl)
theorem dX6_scene_11 : decode cX6_scene 11 = .ok (.aload_n 0, 1) := dk_42 (dk_at dksX6_scene_0 11 rfl rfl)
theorem dX6_scene_12 : decode cX6_scene 12 = .ok (.getfield 64, 3) := dk_180 0 64 (dk_at dksX6_scene_0 12 rfl rfl)
theorem dX6_scene_15 : decode cX6_scene 15 = .ok (.ifCond .eq 27, 3) := dk_153 0 27 (dk_at dksX6_scene_0 15 rfl rfl)
theorem dX6_scene_18 : decode cX6_scene 18 = .ok (.aload_n 0, 1) := dk_42 (dk_at dksX6_scene_0 18 rfl rfl)
theorem dX6_scene_19 : decode cX6_scene 19 = .ok (.invokevirtual 123, 3) := dk_182 0 123 (dk_at dksX6_scene_0 19 rfl rfl)
theorem dX6_scene_22 : decode cX6_scene 22 = .ok (.aload_n 0, 1) := dk_42 (dk_at dksX6_scene_0 22 rfl rfl)
theorem dX6_scene_23 : decode cX6_scene 23 = .ok (.invokevirtual 126, 3) := dk_182 0 126 (dk_at dksX6_scene_1 0 rfl rfl)
theorem dX6_scene_26 : decode cX6_scene 26 = .ok (.aload_n 0, 1) := dk_42 (dk_at dksX6_scene_1 3 rfl rfl)
theorem dX6_scene_27 : decode cX6_scene 27 = .ok (.getfield 18, 3) := dk_180 0 18 (dk_at dksX6_scene_1 4 rfl rfl)
theorem dX6_scene_30 : decode cX6_scene 30 = .ok (.dup, 1) := dk_89 (dk_at dksX6_scene_1 7 rfl rfl)
theorem dX6_scene_31 : decode cX6_scene 31 = .ok (.getfield 129, 3) := dk_180 0 129 (dk_at dksX6_scene_1 8 rfl rfl)
theorem dX6_scene_34 : decode cX6_scene 34 = .ok (.iconst 1, 1) := dk_4 (dk_at dksX6_scene_1 11 rfl rfl)
theorem dX6_scene_35 : decode cX6_scene 35 = .ok (.iadd, 1) := dk_96 (dk_at dksX6_scene_1 12 rfl rfl)
theorem dX6_scene_36 : decode cX6_scene 36 = .ok (.putfield 129, 3) := dk_181 0 129 (dk_at dksX6_scene_1 13 rfl rfl)
theorem dX6_scene_39 : decode cX6_scene 39 = .ok (.goto (-35), 3) := dk_167 255 221 (dk_at dksX6_scene_1 16 rfl rfl)
theorem dX6_scene_42 : decode cX6_scene 42 = .ok (.return_, 1) := dk_177 (dk_at dksX6_scene_1 19 rfl rfl)
abbrev cX6_next : ByteArray := prog_13_method_5_code
def yX6_next : MethodName := ⟨RX6, "next", "()V"⟩
def dkwX6_next_11 : List UInt8 := [27, 167, 0, 4, 6, 181, 0, 64, 177]
abbrev dktX6_next_11 : List UInt8 := dkwX6_next_11 ++ []
def dkwX6_next_10 : List UInt8 := [4, 96, 181, 0, 58, 42, 27, 16, 59, 159, 0, 15, 27, 16, 40, 159, 0, 9, 27, 16, 41, 160, 0, 7]
abbrev dktX6_next_10 : List UInt8 := dkwX6_next_10 ++ dktX6_next_11
def dkwX6_next_9 : List UInt8 := [167, 0, 4, 5, 181, 0, 64, 167, 0, 49, 42, 42, 180, 0, 58, 182, 0, 42, 60, 42, 89, 180, 0, 58]
abbrev dktX6_next_9 : List UInt8 := dkwX6_next_9 ++ dktX6_next_10
def dkwX6_next_8 : List UInt8 := [4, 96, 181, 0, 58, 167, 255, 199, 42, 42, 180, 0, 58, 42, 180, 0, 61, 100, 6, 164, 0, 7, 6]
abbrev dktX6_next_8 : List UInt8 := dkwX6_next_8 ++ dktX6_next_9
def dkwX6_next_7 : List UInt8 := [180, 0, 74, 104, 42, 42, 180, 0, 58, 182, 0, 42, 96, 16, 48, 100, 181, 0, 74, 42, 89, 180, 0, 58]
abbrev dktX6_next_7 : List UInt8 := dkwX6_next_7 ++ dktX6_next_8
def dkwX6_next_6 : List UInt8 := [182, 0, 71, 153, 0, 52, 42, 180, 0, 58, 42, 180, 0, 61, 100, 6, 162, 0, 26, 42, 16, 10, 42]
abbrev dktX6_next_6 : List UInt8 := dkwX6_next_6 ++ dktX6_next_7
def dkwX6_next_5 : List UInt8 := [167, 0, 150, 42, 42, 180, 0, 58, 182, 0, 71, 153, 0, 93, 42, 3, 181, 0, 74, 42, 42, 180, 0, 58]
abbrev dktX6_next_5 : List UInt8 := dkwX6_next_5 ++ dktX6_next_6
def dkwX6_next_4 : List UInt8 := [182, 0, 67, 153, 0, 16, 42, 89, 180, 0, 58, 4, 96, 181, 0, 58, 167, 255, 235, 42, 4, 181, 0, 64]
abbrev dktX6_next_4 : List UInt8 := dkwX6_next_4 ++ dktX6_next_5
def dkwX6_next_3 : List UInt8 := [181, 0, 64, 167, 0, 193, 42, 42, 180, 0, 58, 182, 0, 67, 153, 0, 35, 42, 42, 180, 0, 58]
abbrev dktX6_next_3 : List UInt8 := dkwX6_next_3 ++ dktX6_next_4
def dkwX6_next_2 : List UInt8 := [167, 255, 209, 42, 42, 180, 0, 58, 181, 0, 61, 42, 180, 0, 58, 42, 180, 0, 35, 161, 0, 11, 42, 3]
abbrev dktX6_next_2 : List UInt8 := dkwX6_next_2 ++ dktX6_next_3
def dkwX6_next_1 : List UInt8 := [42, 42, 180, 0, 58, 182, 0, 42, 16, 10, 160, 0, 16, 42, 89, 180, 0, 58, 4, 96, 181, 0, 58]
abbrev dktX6_next_1 : List UInt8 := dkwX6_next_1 ++ dktX6_next_2
def dkwX6_next_0 : List UInt8 := [42, 180, 0, 58, 42, 180, 0, 35, 162, 0, 42, 42, 42, 180, 0, 58, 182, 0, 42, 16, 32, 159, 0, 16]
abbrev dktX6_next_0 : List UInt8 := dkwX6_next_0 ++ dktX6_next_1
theorem dksX6_next_0 : cX6_next.data.toList.drop 0 = dktX6_next_0 := by decide +kernel
theorem dksX6_next_1 : cX6_next.data.toList.drop 24 = dktX6_next_1 := dk_seg dksX6_next_0 24 rfl rfl
theorem dksX6_next_2 : cX6_next.data.toList.drop 47 = dktX6_next_2 := dk_seg dksX6_next_1 23 rfl rfl
theorem dksX6_next_3 : cX6_next.data.toList.drop 71 = dktX6_next_3 := dk_seg dksX6_next_2 24 rfl rfl
theorem dksX6_next_4 : cX6_next.data.toList.drop 93 = dktX6_next_4 := dk_seg dksX6_next_3 22 rfl rfl
theorem dksX6_next_5 : cX6_next.data.toList.drop 117 = dktX6_next_5 := dk_seg dksX6_next_4 24 rfl rfl
theorem dksX6_next_6 : cX6_next.data.toList.drop 141 = dktX6_next_6 := dk_seg dksX6_next_5 24 rfl rfl
theorem dksX6_next_7 : cX6_next.data.toList.drop 164 = dktX6_next_7 := dk_seg dksX6_next_6 23 rfl rfl
theorem dksX6_next_8 : cX6_next.data.toList.drop 188 = dktX6_next_8 := dk_seg dksX6_next_7 24 rfl rfl
theorem dksX6_next_9 : cX6_next.data.toList.drop 211 = dktX6_next_9 := dk_seg dksX6_next_8 23 rfl rfl
theorem dksX6_next_10 : cX6_next.data.toList.drop 235 = dktX6_next_10 := dk_seg dksX6_next_9 24 rfl rfl
theorem dksX6_next_11 : cX6_next.data.toList.drop 259 = dktX6_next_11 := dk_seg dksX6_next_10 24 rfl rfl
theorem dX6_next_0 : decode cX6_next 0 = .ok (.aload_n 0, 1) := dk_42 (dk_at dksX6_next_0 0 rfl rfl)
theorem dX6_next_1 : decode cX6_next 1 = .ok (.getfield 58, 3) := dk_180 0 58 (dk_at dksX6_next_0 1 rfl rfl)
theorem dX6_next_4 : decode cX6_next 4 = .ok (.aload_n 0, 1) := dk_42 (dk_at dksX6_next_0 4 rfl rfl)
theorem dX6_next_5 : decode cX6_next 5 = .ok (.getfield 35, 3) := dk_180 0 35 (dk_at dksX6_next_0 5 rfl rfl)
theorem dX6_next_8 : decode cX6_next 8 = .ok (.if_icmp .ge 42, 3) := dk_162 0 42 (dk_at dksX6_next_0 8 rfl rfl)
theorem dX6_next_11 : decode cX6_next 11 = .ok (.aload_n 0, 1) := dk_42 (dk_at dksX6_next_0 11 rfl rfl)
theorem dX6_next_12 : decode cX6_next 12 = .ok (.aload_n 0, 1) := dk_42 (dk_at dksX6_next_0 12 rfl rfl)
theorem dX6_next_13 : decode cX6_next 13 = .ok (.getfield 58, 3) := dk_180 0 58 (dk_at dksX6_next_0 13 rfl rfl)
theorem dX6_next_16 : decode cX6_next 16 = .ok (.invokevirtual 42, 3) := dk_182 0 42 (dk_at dksX6_next_0 16 rfl rfl)
theorem dX6_next_19 : decode cX6_next 19 = .ok (.bipush 32, 2) := dk_16 32 (dk_at dksX6_next_0 19 rfl rfl)
theorem dX6_next_21 : decode cX6_next 21 = .ok (.if_icmp .eq 16, 3) := dk_159 0 16 (dk_at dksX6_next_0 21 rfl rfl)
theorem dX6_next_24 : decode cX6_next 24 = .ok (.aload_n 0, 1) := dk_42 (dk_at dksX6_next_1 0 rfl rfl)
theorem dX6_next_25 : decode cX6_next 25 = .ok (.aload_n 0, 1) := dk_42 (dk_at dksX6_next_1 1 rfl rfl)
theorem dX6_next_26 : decode cX6_next 26 = .ok (.getfield 58, 3) := dk_180 0 58 (dk_at dksX6_next_1 2 rfl rfl)
theorem dX6_next_29 : decode cX6_next 29 = .ok (.invokevirtual 42, 3) := dk_182 0 42 (dk_at dksX6_next_1 5 rfl rfl)
theorem dX6_next_32 : decode cX6_next 32 = .ok (.bipush 10, 2) := dk_16 10 (dk_at dksX6_next_1 8 rfl rfl)
theorem dX6_next_34 : decode cX6_next 34 = .ok (.if_icmp .ne 16, 3) := dk_160 0 16 (dk_at dksX6_next_1 10 rfl rfl)
theorem dX6_next_37 : decode cX6_next 37 = .ok (.aload_n 0, 1) := dk_42 (dk_at dksX6_next_1 13 rfl rfl)
theorem dX6_next_38 : decode cX6_next 38 = .ok (.dup, 1) := dk_89 (dk_at dksX6_next_1 14 rfl rfl)
theorem dX6_next_39 : decode cX6_next 39 = .ok (.getfield 58, 3) := dk_180 0 58 (dk_at dksX6_next_1 15 rfl rfl)
theorem dX6_next_42 : decode cX6_next 42 = .ok (.iconst 1, 1) := dk_4 (dk_at dksX6_next_1 18 rfl rfl)
theorem dX6_next_43 : decode cX6_next 43 = .ok (.iadd, 1) := dk_96 (dk_at dksX6_next_1 19 rfl rfl)
theorem dX6_next_44 : decode cX6_next 44 = .ok (.putfield 58, 3) := dk_181 0 58 (dk_at dksX6_next_1 20 rfl rfl)
theorem dX6_next_47 : decode cX6_next 47 = .ok (.goto (-47), 3) := dk_167 255 209 (dk_at dksX6_next_2 0 rfl rfl)
theorem dX6_next_50 : decode cX6_next 50 = .ok (.aload_n 0, 1) := dk_42 (dk_at dksX6_next_2 3 rfl rfl)
theorem dX6_next_51 : decode cX6_next 51 = .ok (.aload_n 0, 1) := dk_42 (dk_at dksX6_next_2 4 rfl rfl)
theorem dX6_next_52 : decode cX6_next 52 = .ok (.getfield 58, 3) := dk_180 0 58 (dk_at dksX6_next_2 5 rfl rfl)
theorem dX6_next_55 : decode cX6_next 55 = .ok (.putfield 61, 3) := dk_181 0 61 (dk_at dksX6_next_2 8 rfl rfl)
theorem dX6_next_58 : decode cX6_next 58 = .ok (.aload_n 0, 1) := dk_42 (dk_at dksX6_next_2 11 rfl rfl)
theorem dX6_next_59 : decode cX6_next 59 = .ok (.getfield 58, 3) := dk_180 0 58 (dk_at dksX6_next_2 12 rfl rfl)
theorem dX6_next_62 : decode cX6_next 62 = .ok (.aload_n 0, 1) := dk_42 (dk_at dksX6_next_2 15 rfl rfl)
theorem dX6_next_63 : decode cX6_next 63 = .ok (.getfield 35, 3) := dk_180 0 35 (dk_at dksX6_next_2 16 rfl rfl)
theorem dX6_next_66 : decode cX6_next 66 = .ok (.if_icmp .lt 11, 3) := dk_161 0 11 (dk_at dksX6_next_2 19 rfl rfl)
theorem dX6_next_69 : decode cX6_next 69 = .ok (.aload_n 0, 1) := dk_42 (dk_at dksX6_next_2 22 rfl rfl)
theorem dX6_next_70 : decode cX6_next 70 = .ok (.iconst 0, 1) := dk_3 (dk_at dksX6_next_2 23 rfl rfl)
theorem dX6_next_71 : decode cX6_next 71 = .ok (.putfield 64, 3) := dk_181 0 64 (dk_at dksX6_next_3 0 rfl rfl)
theorem dX6_next_74 : decode cX6_next 74 = .ok (.goto 193, 3) := dk_167 0 193 (dk_at dksX6_next_3 3 rfl rfl)
theorem dX6_next_77 : decode cX6_next 77 = .ok (.aload_n 0, 1) := dk_42 (dk_at dksX6_next_3 6 rfl rfl)
theorem dX6_next_78 : decode cX6_next 78 = .ok (.aload_n 0, 1) := dk_42 (dk_at dksX6_next_3 7 rfl rfl)
theorem dX6_next_79 : decode cX6_next 79 = .ok (.getfield 58, 3) := dk_180 0 58 (dk_at dksX6_next_3 8 rfl rfl)
theorem dX6_next_82 : decode cX6_next 82 = .ok (.invokevirtual 67, 3) := dk_182 0 67 (dk_at dksX6_next_3 11 rfl rfl)
theorem dX6_next_85 : decode cX6_next 85 = .ok (.ifCond .eq 35, 3) := dk_153 0 35 (dk_at dksX6_next_3 14 rfl rfl)
theorem dX6_next_88 : decode cX6_next 88 = .ok (.aload_n 0, 1) := dk_42 (dk_at dksX6_next_3 17 rfl rfl)
theorem dX6_next_89 : decode cX6_next 89 = .ok (.aload_n 0, 1) := dk_42 (dk_at dksX6_next_3 18 rfl rfl)
theorem dX6_next_90 : decode cX6_next 90 = .ok (.getfield 58, 3) := dk_180 0 58 (dk_at dksX6_next_3 19 rfl rfl)
theorem dX6_next_93 : decode cX6_next 93 = .ok (.invokevirtual 67, 3) := dk_182 0 67 (dk_at dksX6_next_4 0 rfl rfl)
theorem dX6_next_96 : decode cX6_next 96 = .ok (.ifCond .eq 16, 3) := dk_153 0 16 (dk_at dksX6_next_4 3 rfl rfl)
theorem dX6_next_99 : decode cX6_next 99 = .ok (.aload_n 0, 1) := dk_42 (dk_at dksX6_next_4 6 rfl rfl)
theorem dX6_next_100 : decode cX6_next 100 = .ok (.dup, 1) := dk_89 (dk_at dksX6_next_4 7 rfl rfl)
theorem dX6_next_101 : decode cX6_next 101 = .ok (.getfield 58, 3) := dk_180 0 58 (dk_at dksX6_next_4 8 rfl rfl)
theorem dX6_next_104 : decode cX6_next 104 = .ok (.iconst 1, 1) := dk_4 (dk_at dksX6_next_4 11 rfl rfl)
theorem dX6_next_105 : decode cX6_next 105 = .ok (.iadd, 1) := dk_96 (dk_at dksX6_next_4 12 rfl rfl)
theorem dX6_next_106 : decode cX6_next 106 = .ok (.putfield 58, 3) := dk_181 0 58 (dk_at dksX6_next_4 13 rfl rfl)
theorem dX6_next_109 : decode cX6_next 109 = .ok (.goto (-21), 3) := dk_167 255 235 (dk_at dksX6_next_4 16 rfl rfl)
theorem dX6_next_112 : decode cX6_next 112 = .ok (.aload_n 0, 1) := dk_42 (dk_at dksX6_next_4 19 rfl rfl)
theorem dX6_next_113 : decode cX6_next 113 = .ok (.iconst 1, 1) := dk_4 (dk_at dksX6_next_4 20 rfl rfl)
theorem dX6_next_114 : decode cX6_next 114 = .ok (.putfield 64, 3) := dk_181 0 64 (dk_at dksX6_next_4 21 rfl rfl)
theorem dX6_next_117 : decode cX6_next 117 = .ok (.goto 150, 3) := dk_167 0 150 (dk_at dksX6_next_5 0 rfl rfl)
theorem dX6_next_120 : decode cX6_next 120 = .ok (.aload_n 0, 1) := dk_42 (dk_at dksX6_next_5 3 rfl rfl)
theorem dX6_next_121 : decode cX6_next 121 = .ok (.aload_n 0, 1) := dk_42 (dk_at dksX6_next_5 4 rfl rfl)
theorem dX6_next_122 : decode cX6_next 122 = .ok (.getfield 58, 3) := dk_180 0 58 (dk_at dksX6_next_5 5 rfl rfl)
theorem dX6_next_125 : decode cX6_next 125 = .ok (.invokevirtual 71, 3) := dk_182 0 71 (dk_at dksX6_next_5 8 rfl rfl)
theorem dX6_next_128 : decode cX6_next 128 = .ok (.ifCond .eq 93, 3) := dk_153 0 93 (dk_at dksX6_next_5 11 rfl rfl)
theorem dX6_next_131 : decode cX6_next 131 = .ok (.aload_n 0, 1) := dk_42 (dk_at dksX6_next_5 14 rfl rfl)
theorem dX6_next_132 : decode cX6_next 132 = .ok (.iconst 0, 1) := dk_3 (dk_at dksX6_next_5 15 rfl rfl)
theorem dX6_next_133 : decode cX6_next 133 = .ok (.putfield 74, 3) := dk_181 0 74 (dk_at dksX6_next_5 16 rfl rfl)
theorem dX6_next_136 : decode cX6_next 136 = .ok (.aload_n 0, 1) := dk_42 (dk_at dksX6_next_5 19 rfl rfl)
theorem dX6_next_137 : decode cX6_next 137 = .ok (.aload_n 0, 1) := dk_42 (dk_at dksX6_next_5 20 rfl rfl)
theorem dX6_next_138 : decode cX6_next 138 = .ok (.getfield 58, 3) := dk_180 0 58 (dk_at dksX6_next_5 21 rfl rfl)
theorem dX6_next_141 : decode cX6_next 141 = .ok (.invokevirtual 71, 3) := dk_182 0 71 (dk_at dksX6_next_6 0 rfl rfl)
theorem dX6_next_144 : decode cX6_next 144 = .ok (.ifCond .eq 52, 3) := dk_153 0 52 (dk_at dksX6_next_6 3 rfl rfl)
theorem dX6_next_147 : decode cX6_next 147 = .ok (.aload_n 0, 1) := dk_42 (dk_at dksX6_next_6 6 rfl rfl)
theorem dX6_next_148 : decode cX6_next 148 = .ok (.getfield 58, 3) := dk_180 0 58 (dk_at dksX6_next_6 7 rfl rfl)
theorem dX6_next_151 : decode cX6_next 151 = .ok (.aload_n 0, 1) := dk_42 (dk_at dksX6_next_6 10 rfl rfl)
theorem dX6_next_152 : decode cX6_next 152 = .ok (.getfield 61, 3) := dk_180 0 61 (dk_at dksX6_next_6 11 rfl rfl)
theorem dX6_next_155 : decode cX6_next 155 = .ok (.isub, 1) := dk_100 (dk_at dksX6_next_6 14 rfl rfl)
theorem dX6_next_156 : decode cX6_next 156 = .ok (.iconst 3, 1) := dk_6 (dk_at dksX6_next_6 15 rfl rfl)
theorem dX6_next_157 : decode cX6_next 157 = .ok (.if_icmp .ge 26, 3) := dk_162 0 26 (dk_at dksX6_next_6 16 rfl rfl)
theorem dX6_next_160 : decode cX6_next 160 = .ok (.aload_n 0, 1) := dk_42 (dk_at dksX6_next_6 19 rfl rfl)
theorem dX6_next_161 : decode cX6_next 161 = .ok (.bipush 10, 2) := dk_16 10 (dk_at dksX6_next_6 20 rfl rfl)
theorem dX6_next_163 : decode cX6_next 163 = .ok (.aload_n 0, 1) := dk_42 (dk_at dksX6_next_6 22 rfl rfl)
theorem dX6_next_164 : decode cX6_next 164 = .ok (.getfield 74, 3) := dk_180 0 74 (dk_at dksX6_next_7 0 rfl rfl)
theorem dX6_next_167 : decode cX6_next 167 = .ok (.imul, 1) := dk_104 (dk_at dksX6_next_7 3 rfl rfl)
theorem dX6_next_168 : decode cX6_next 168 = .ok (.aload_n 0, 1) := dk_42 (dk_at dksX6_next_7 4 rfl rfl)
theorem dX6_next_169 : decode cX6_next 169 = .ok (.aload_n 0, 1) := dk_42 (dk_at dksX6_next_7 5 rfl rfl)
theorem dX6_next_170 : decode cX6_next 170 = .ok (.getfield 58, 3) := dk_180 0 58 (dk_at dksX6_next_7 6 rfl rfl)
theorem dX6_next_173 : decode cX6_next 173 = .ok (.invokevirtual 42, 3) := dk_182 0 42 (dk_at dksX6_next_7 9 rfl rfl)
theorem dX6_next_176 : decode cX6_next 176 = .ok (.iadd, 1) := dk_96 (dk_at dksX6_next_7 12 rfl rfl)
theorem dX6_next_177 : decode cX6_next 177 = .ok (.bipush 48, 2) := dk_16 48 (dk_at dksX6_next_7 13 rfl rfl)
theorem dX6_next_179 : decode cX6_next 179 = .ok (.isub, 1) := dk_100 (dk_at dksX6_next_7 15 rfl rfl)
theorem dX6_next_180 : decode cX6_next 180 = .ok (.putfield 74, 3) := dk_181 0 74 (dk_at dksX6_next_7 16 rfl rfl)
theorem dX6_next_183 : decode cX6_next 183 = .ok (.aload_n 0, 1) := dk_42 (dk_at dksX6_next_7 19 rfl rfl)
theorem dX6_next_184 : decode cX6_next 184 = .ok (.dup, 1) := dk_89 (dk_at dksX6_next_7 20 rfl rfl)
theorem dX6_next_185 : decode cX6_next 185 = .ok (.getfield 58, 3) := dk_180 0 58 (dk_at dksX6_next_7 21 rfl rfl)
theorem dX6_next_188 : decode cX6_next 188 = .ok (.iconst 1, 1) := dk_4 (dk_at dksX6_next_8 0 rfl rfl)
theorem dX6_next_189 : decode cX6_next 189 = .ok (.iadd, 1) := dk_96 (dk_at dksX6_next_8 1 rfl rfl)
theorem dX6_next_190 : decode cX6_next 190 = .ok (.putfield 58, 3) := dk_181 0 58 (dk_at dksX6_next_8 2 rfl rfl)
theorem dX6_next_193 : decode cX6_next 193 = .ok (.goto (-57), 3) := dk_167 255 199 (dk_at dksX6_next_8 5 rfl rfl)
theorem dX6_next_196 : decode cX6_next 196 = .ok (.aload_n 0, 1) := dk_42 (dk_at dksX6_next_8 8 rfl rfl)
theorem dX6_next_197 : decode cX6_next 197 = .ok (.aload_n 0, 1) := dk_42 (dk_at dksX6_next_8 9 rfl rfl)
theorem dX6_next_198 : decode cX6_next 198 = .ok (.getfield 58, 3) := dk_180 0 58 (dk_at dksX6_next_8 10 rfl rfl)
theorem dX6_next_201 : decode cX6_next 201 = .ok (.aload_n 0, 1) := dk_42 (dk_at dksX6_next_8 13 rfl rfl)
theorem dX6_next_202 : decode cX6_next 202 = .ok (.getfield 61, 3) := dk_180 0 61 (dk_at dksX6_next_8 14 rfl rfl)
theorem dX6_next_205 : decode cX6_next 205 = .ok (.isub, 1) := dk_100 (dk_at dksX6_next_8 17 rfl rfl)
theorem dX6_next_206 : decode cX6_next 206 = .ok (.iconst 3, 1) := dk_6 (dk_at dksX6_next_8 18 rfl rfl)
theorem dX6_next_207 : decode cX6_next 207 = .ok (.if_icmp .le 7, 3) := dk_164 0 7 (dk_at dksX6_next_8 19 rfl rfl)
theorem dX6_next_210 : decode cX6_next 210 = .ok (.iconst 3, 1) := dk_6 (dk_at dksX6_next_8 22 rfl rfl)
theorem dX6_next_211 : decode cX6_next 211 = .ok (.goto 4, 3) := dk_167 0 4 (dk_at dksX6_next_9 0 rfl rfl)
theorem dX6_next_214 : decode cX6_next 214 = .ok (.iconst 2, 1) := dk_5 (dk_at dksX6_next_9 3 rfl rfl)
theorem dX6_next_215 : decode cX6_next 215 = .ok (.putfield 64, 3) := dk_181 0 64 (dk_at dksX6_next_9 4 rfl rfl)
theorem dX6_next_218 : decode cX6_next 218 = .ok (.goto 49, 3) := dk_167 0 49 (dk_at dksX6_next_9 7 rfl rfl)
theorem dX6_next_221 : decode cX6_next 221 = .ok (.aload_n 0, 1) := dk_42 (dk_at dksX6_next_9 10 rfl rfl)
theorem dX6_next_222 : decode cX6_next 222 = .ok (.aload_n 0, 1) := dk_42 (dk_at dksX6_next_9 11 rfl rfl)
theorem dX6_next_223 : decode cX6_next 223 = .ok (.getfield 58, 3) := dk_180 0 58 (dk_at dksX6_next_9 12 rfl rfl)
theorem dX6_next_226 : decode cX6_next 226 = .ok (.invokevirtual 42, 3) := dk_182 0 42 (dk_at dksX6_next_9 15 rfl rfl)
theorem dX6_next_229 : decode cX6_next 229 = .ok (.istore_n 1, 1) := dk_60 (dk_at dksX6_next_9 18 rfl rfl)
theorem dX6_next_230 : decode cX6_next 230 = .ok (.aload_n 0, 1) := dk_42 (dk_at dksX6_next_9 19 rfl rfl)
theorem dX6_next_231 : decode cX6_next 231 = .ok (.dup, 1) := dk_89 (dk_at dksX6_next_9 20 rfl rfl)
theorem dX6_next_232 : decode cX6_next 232 = .ok (.getfield 58, 3) := dk_180 0 58 (dk_at dksX6_next_9 21 rfl rfl)
theorem dX6_next_235 : decode cX6_next 235 = .ok (.iconst 1, 1) := dk_4 (dk_at dksX6_next_10 0 rfl rfl)
theorem dX6_next_236 : decode cX6_next 236 = .ok (.iadd, 1) := dk_96 (dk_at dksX6_next_10 1 rfl rfl)
theorem dX6_next_237 : decode cX6_next 237 = .ok (.putfield 58, 3) := dk_181 0 58 (dk_at dksX6_next_10 2 rfl rfl)
theorem dX6_next_240 : decode cX6_next 240 = .ok (.aload_n 0, 1) := dk_42 (dk_at dksX6_next_10 5 rfl rfl)
theorem dX6_next_241 : decode cX6_next 241 = .ok (.iload_n 1, 1) := dk_27 (dk_at dksX6_next_10 6 rfl rfl)
theorem dX6_next_242 : decode cX6_next 242 = .ok (.bipush 59, 2) := dk_16 59 (dk_at dksX6_next_10 7 rfl rfl)
theorem dX6_next_244 : decode cX6_next 244 = .ok (.if_icmp .eq 15, 3) := dk_159 0 15 (dk_at dksX6_next_10 9 rfl rfl)
theorem dX6_next_247 : decode cX6_next 247 = .ok (.iload_n 1, 1) := dk_27 (dk_at dksX6_next_10 12 rfl rfl)
theorem dX6_next_248 : decode cX6_next 248 = .ok (.bipush 40, 2) := dk_16 40 (dk_at dksX6_next_10 13 rfl rfl)
theorem dX6_next_250 : decode cX6_next 250 = .ok (.if_icmp .eq 9, 3) := dk_159 0 9 (dk_at dksX6_next_10 15 rfl rfl)
theorem dX6_next_253 : decode cX6_next 253 = .ok (.iload_n 1, 1) := dk_27 (dk_at dksX6_next_10 18 rfl rfl)
theorem dX6_next_254 : decode cX6_next 254 = .ok (.bipush 41, 2) := dk_16 41 (dk_at dksX6_next_10 19 rfl rfl)
theorem dX6_next_256 : decode cX6_next 256 = .ok (.if_icmp .ne 7, 3) := dk_160 0 7 (dk_at dksX6_next_10 21 rfl rfl)
theorem dX6_next_259 : decode cX6_next 259 = .ok (.iload_n 1, 1) := dk_27 (dk_at dksX6_next_11 0 rfl rfl)
theorem dX6_next_260 : decode cX6_next 260 = .ok (.goto 4, 3) := dk_167 0 4 (dk_at dksX6_next_11 1 rfl rfl)
theorem dX6_next_263 : decode cX6_next 263 = .ok (.iconst 3, 1) := dk_6 (dk_at dksX6_next_11 4 rfl rfl)
theorem dX6_next_264 : decode cX6_next 264 = .ok (.putfield 64, 3) := dk_181 0 64 (dk_at dksX6_next_11 5 rfl rfl)
theorem dX6_next_267 : decode cX6_next 267 = .ok (.return_, 1) := dk_177 (dk_at dksX6_next_11 8 rfl rfl)
abbrev cX6_see : ByteArray := prog_13_method_2_code
def yX6_see : MethodName := ⟨RX6, "see", "(I)I"⟩
def dkwX6_see_1 : List UInt8 := [3, 172]
abbrev dktX6_see_1 : List UInt8 := dkwX6_see_1 ++ []
def dkwX6_see_0 : List UInt8 := [27, 42, 180, 0, 35, 162, 0, 19, 42, 180, 0, 3, 180, 0, 38, 27, 51, 17, 0, 255, 126, 167, 0, 4]
abbrev dktX6_see_0 : List UInt8 := dkwX6_see_0 ++ dktX6_see_1
theorem dksX6_see_0 : cX6_see.data.toList.drop 0 = dktX6_see_0 := by decide +kernel
theorem dksX6_see_1 : cX6_see.data.toList.drop 24 = dktX6_see_1 := dk_seg dksX6_see_0 24 rfl rfl
theorem dX6_see_0 : decode cX6_see 0 = .ok (.iload_n 1, 1) := dk_27 (dk_at dksX6_see_0 0 rfl rfl)
theorem dX6_see_1 : decode cX6_see 1 = .ok (.aload_n 0, 1) := dk_42 (dk_at dksX6_see_0 1 rfl rfl)
theorem dX6_see_2 : decode cX6_see 2 = .ok (.getfield 35, 3) := dk_180 0 35 (dk_at dksX6_see_0 2 rfl rfl)
theorem dX6_see_5 : decode cX6_see 5 = .ok (.if_icmp .ge 19, 3) := dk_162 0 19 (dk_at dksX6_see_0 5 rfl rfl)
theorem dX6_see_8 : decode cX6_see 8 = .ok (.aload_n 0, 1) := dk_42 (dk_at dksX6_see_0 8 rfl rfl)
theorem dX6_see_9 : decode cX6_see 9 = .ok (.getfield 3, 3) := dk_180 0 3 (dk_at dksX6_see_0 9 rfl rfl)
theorem dX6_see_12 : decode cX6_see 12 = .ok (.getfield 38, 3) := dk_180 0 38 (dk_at dksX6_see_0 12 rfl rfl)
theorem dX6_see_15 : decode cX6_see 15 = .ok (.iload_n 1, 1) := dk_27 (dk_at dksX6_see_0 15 rfl rfl)
theorem dX6_see_16 : decode cX6_see 16 = .ok (.baload, 1) := dk_51 (dk_at dksX6_see_0 16 rfl rfl)
theorem dX6_see_17 : decode cX6_see 17 = .ok (.sipush 255, 3) := dk_17 0 255 (dk_at dksX6_see_0 17 rfl rfl)
theorem dX6_see_20 : decode cX6_see 20 = .ok (.iand, 1) := dk_126 (dk_at dksX6_see_0 20 rfl rfl)
theorem dX6_see_21 : decode cX6_see 21 = .ok (.goto 4, 3) := dk_167 0 4 (dk_at dksX6_see_0 21 rfl rfl)
theorem dX6_see_24 : decode cX6_see 24 = .ok (.iconst 0, 1) := dk_3 (dk_at dksX6_see_1 0 rfl rfl)
theorem dX6_see_25 : decode cX6_see 25 = .ok (.ireturn, 1) := dk_172 (dk_at dksX6_see_1 1 rfl rfl)
abbrev cX6_isSmall : ByteArray := prog_13_method_3_code
def yX6_isSmall : MethodName := ⟨RX6, "isSmall", "(I)Z"⟩
def dkwX6_isSmall_0 : List UInt8 := [42, 27, 182, 0, 42, 133, 20, 0, 46, 20, 0, 48, 184, 0, 50, 172]
abbrev dktX6_isSmall_0 : List UInt8 := dkwX6_isSmall_0 ++ []
theorem dksX6_isSmall_0 : cX6_isSmall.data.toList.drop 0 = dktX6_isSmall_0 := by decide +kernel
theorem dX6_isSmall_0 : decode cX6_isSmall 0 = .ok (.aload_n 0, 1) := dk_42 (dk_at dksX6_isSmall_0 0 rfl rfl)
theorem dX6_isSmall_1 : decode cX6_isSmall 1 = .ok (.iload_n 1, 1) := dk_27 (dk_at dksX6_isSmall_0 1 rfl rfl)
theorem dX6_isSmall_2 : decode cX6_isSmall 2 = .ok (.invokevirtual 42, 3) := dk_182 0 42 (dk_at dksX6_isSmall_0 2 rfl rfl)
theorem dX6_isSmall_5 : decode cX6_isSmall 5 = .ok (.i2l, 1) := dk_133 (dk_at dksX6_isSmall_0 5 rfl rfl)
theorem dX6_isSmall_6 : decode cX6_isSmall 6 = .ok (.ldc2_w 46, 3) := dk_20 0 46 (dk_at dksX6_isSmall_0 6 rfl rfl)
theorem dX6_isSmall_9 : decode cX6_isSmall 9 = .ok (.ldc2_w 48, 3) := dk_20 0 48 (dk_at dksX6_isSmall_0 9 rfl rfl)
theorem dX6_isSmall_12 : decode cX6_isSmall 12 = .ok (.invokestatic 50, 3) := dk_184 0 50 (dk_at dksX6_isSmall_0 12 rfl rfl)
theorem dX6_isSmall_15 : decode cX6_isSmall 15 = .ok (.ireturn, 1) := dk_172 (dk_at dksX6_isSmall_0 15 rfl rfl)
abbrev cX6_isDigit : ByteArray := prog_13_method_4_code
def yX6_isDigit : MethodName := ⟨RX6, "isDigit", "(I)Z"⟩
def dkwX6_isDigit_0 : List UInt8 := [42, 27, 182, 0, 42, 133, 20, 0, 54, 20, 0, 56, 184, 0, 50, 172]
abbrev dktX6_isDigit_0 : List UInt8 := dkwX6_isDigit_0 ++ []
theorem dksX6_isDigit_0 : cX6_isDigit.data.toList.drop 0 = dktX6_isDigit_0 := by decide +kernel
theorem dX6_isDigit_0 : decode cX6_isDigit 0 = .ok (.aload_n 0, 1) := dk_42 (dk_at dksX6_isDigit_0 0 rfl rfl)
theorem dX6_isDigit_1 : decode cX6_isDigit 1 = .ok (.iload_n 1, 1) := dk_27 (dk_at dksX6_isDigit_0 1 rfl rfl)
theorem dX6_isDigit_2 : decode cX6_isDigit 2 = .ok (.invokevirtual 42, 3) := dk_182 0 42 (dk_at dksX6_isDigit_0 2 rfl rfl)
theorem dX6_isDigit_5 : decode cX6_isDigit 5 = .ok (.i2l, 1) := dk_133 (dk_at dksX6_isDigit_0 5 rfl rfl)
theorem dX6_isDigit_6 : decode cX6_isDigit 6 = .ok (.ldc2_w 54, 3) := dk_20 0 54 (dk_at dksX6_isDigit_0 6 rfl rfl)
theorem dX6_isDigit_9 : decode cX6_isDigit 9 = .ok (.ldc2_w 56, 3) := dk_20 0 56 (dk_at dksX6_isDigit_0 9 rfl rfl)
theorem dX6_isDigit_12 : decode cX6_isDigit 12 = .ok (.invokestatic 50, 3) := dk_184 0 50 (dk_at dksX6_isDigit_0 12 rfl rfl)
theorem dX6_isDigit_15 : decode cX6_isDigit 15 = .ok (.ireturn, 1) := dk_172 (dk_at dksX6_isDigit_0 15 rfl rfl)
abbrev cX6_line : ByteArray := prog_13_method_16_code
def yX6_line : MethodName := ⟨RX6, "line", "()V"⟩
def dkwX6_line_6 : List UInt8 := [17, 0, 200, 182, 0, 103, 181, 0, 175, 167, 0, 7, 42, 182, 0, 177, 177]
abbrev dktX6_line_6 : List UInt8 := dkwX6_line_6 ++ []
def dkwX6_line_5 : List UInt8 := [182, 0, 103, 181, 0, 171, 167, 0, 34, 42, 18, 173, 182, 0, 100, 153, 0, 21, 42, 180, 0, 18, 42, 4]
abbrev dktX6_line_5 : List UInt8 := dkwX6_line_5 ++ dktX6_line_6
def dkwX6_line_4 : List UInt8 := [181, 0, 167, 167, 0, 60, 42, 18, 169, 182, 0, 100, 153, 0, 20, 42, 180, 0, 18, 42, 3, 16, 60]
abbrev dktX6_line_4 : List UInt8 := dkwX6_line_4 ++ dktX6_line_5
def dkwX6_line_3 : List UInt8 := [167, 0, 86, 42, 18, 165, 182, 0, 100, 153, 0, 20, 42, 180, 0, 18, 42, 3, 16, 20, 182, 0, 103]
abbrev dktX6_line_3 : List UInt8 := dkwX6_line_3 ++ dktX6_line_4
def dkwX6_line_2 : List UInt8 := [18, 162, 182, 0, 100, 153, 0, 20, 42, 180, 0, 18, 42, 3, 16, 30, 182, 0, 103, 181, 0, 163]
abbrev dktX6_line_2 : List UInt8 := dkwX6_line_2 ++ dktX6_line_3
def dkwX6_line_1 : List UInt8 := [153, 0, 22, 42, 180, 0, 18, 42, 42, 182, 0, 157, 7, 182, 0, 103, 181, 0, 160, 167, 0, 112, 42]
abbrev dktX6_line_1 : List UInt8 := dkwX6_line_1 ++ dktX6_line_2
def dkwX6_line_0 : List UInt8 := [42, 18, 151, 182, 0, 90, 153, 0, 10, 42, 182, 0, 153, 167, 0, 140, 42, 18, 155, 182, 0, 100]
abbrev dktX6_line_0 : List UInt8 := dkwX6_line_0 ++ dktX6_line_1
theorem dksX6_line_0 : cX6_line.data.toList.drop 0 = dktX6_line_0 := by decide +kernel
theorem dksX6_line_1 : cX6_line.data.toList.drop 22 = dktX6_line_1 := dk_seg dksX6_line_0 22 rfl rfl
theorem dksX6_line_2 : cX6_line.data.toList.drop 45 = dktX6_line_2 := dk_seg dksX6_line_1 23 rfl rfl
theorem dksX6_line_3 : cX6_line.data.toList.drop 67 = dktX6_line_3 := dk_seg dksX6_line_2 22 rfl rfl
theorem dksX6_line_4 : cX6_line.data.toList.drop 90 = dktX6_line_4 := dk_seg dksX6_line_3 23 rfl rfl
theorem dksX6_line_5 : cX6_line.data.toList.drop 113 = dktX6_line_5 := dk_seg dksX6_line_4 23 rfl rfl
theorem dksX6_line_6 : cX6_line.data.toList.drop 137 = dktX6_line_6 := dk_seg dksX6_line_5 24 rfl rfl
theorem dX6_line_0 : decode cX6_line 0 = .ok (.aload_n 0, 1) := dk_42 (dk_at dksX6_line_0 0 rfl rfl)
theorem dX6_line_1 : decode cX6_line 1 = .ok (.ldc 151, 2) := dk_18 151 (dk_at dksX6_line_0 1 rfl rfl)
theorem dX6_line_3 : decode cX6_line 3 = .ok (.invokevirtual 90, 3) := dk_182 0 90 (dk_at dksX6_line_0 3 rfl rfl)
theorem dX6_line_6 : decode cX6_line 6 = .ok (.ifCond .eq 10, 3) := dk_153 0 10 (dk_at dksX6_line_0 6 rfl rfl)
theorem dX6_line_9 : decode cX6_line 9 = .ok (.aload_n 0, 1) := dk_42 (dk_at dksX6_line_0 9 rfl rfl)
theorem dX6_line_10 : decode cX6_line 10 = .ok (.invokevirtual 153, 3) := dk_182 0 153 (dk_at dksX6_line_0 10 rfl rfl)
theorem dX6_line_13 : decode cX6_line 13 = .ok (.goto 140, 3) := dk_167 0 140 (dk_at dksX6_line_0 13 rfl rfl)
theorem dX6_line_16 : decode cX6_line 16 = .ok (.aload_n 0, 1) := dk_42 (dk_at dksX6_line_0 16 rfl rfl)
theorem dX6_line_17 : decode cX6_line 17 = .ok (.ldc 155, 2) := dk_18 155 (dk_at dksX6_line_0 17 rfl rfl)
theorem dX6_line_19 : decode cX6_line 19 = .ok (.invokevirtual 100, 3) := dk_182 0 100 (dk_at dksX6_line_0 19 rfl rfl)
theorem dX6_line_22 : decode cX6_line 22 = .ok (.ifCond .eq 22, 3) := dk_153 0 22 (dk_at dksX6_line_1 0 rfl rfl)
theorem dX6_line_25 : decode cX6_line 25 = .ok (.aload_n 0, 1) := dk_42 (dk_at dksX6_line_1 3 rfl rfl)
theorem dX6_line_26 : decode cX6_line 26 = .ok (.getfield 18, 3) := dk_180 0 18 (dk_at dksX6_line_1 4 rfl rfl)
theorem dX6_line_29 : decode cX6_line 29 = .ok (.aload_n 0, 1) := dk_42 (dk_at dksX6_line_1 7 rfl rfl)
theorem dX6_line_30 : decode cX6_line 30 = .ok (.aload_n 0, 1) := dk_42 (dk_at dksX6_line_1 8 rfl rfl)
theorem dX6_line_31 : decode cX6_line 31 = .ok (.invokevirtual 157, 3) := dk_182 0 157 (dk_at dksX6_line_1 9 rfl rfl)
theorem dX6_line_34 : decode cX6_line 34 = .ok (.iconst 4, 1) := dk_7 (dk_at dksX6_line_1 12 rfl rfl)
theorem dX6_line_35 : decode cX6_line 35 = .ok (.invokevirtual 103, 3) := dk_182 0 103 (dk_at dksX6_line_1 13 rfl rfl)
theorem dX6_line_38 : decode cX6_line 38 = .ok (.putfield 160, 3) := dk_181 0 160 (dk_at dksX6_line_1 16 rfl rfl)
theorem dX6_line_41 : decode cX6_line 41 = .ok (.goto 112, 3) := dk_167 0 112 (dk_at dksX6_line_1 19 rfl rfl)
theorem dX6_line_44 : decode cX6_line 44 = .ok (.aload_n 0, 1) := dk_42 (dk_at dksX6_line_1 22 rfl rfl)
theorem dX6_line_45 : decode cX6_line 45 = .ok (.ldc 162, 2) := dk_18 162 (dk_at dksX6_line_2 0 rfl rfl)
theorem dX6_line_47 : decode cX6_line 47 = .ok (.invokevirtual 100, 3) := dk_182 0 100 (dk_at dksX6_line_2 2 rfl rfl)
theorem dX6_line_50 : decode cX6_line 50 = .ok (.ifCond .eq 20, 3) := dk_153 0 20 (dk_at dksX6_line_2 5 rfl rfl)
theorem dX6_line_53 : decode cX6_line 53 = .ok (.aload_n 0, 1) := dk_42 (dk_at dksX6_line_2 8 rfl rfl)
theorem dX6_line_54 : decode cX6_line 54 = .ok (.getfield 18, 3) := dk_180 0 18 (dk_at dksX6_line_2 9 rfl rfl)
theorem dX6_line_57 : decode cX6_line 57 = .ok (.aload_n 0, 1) := dk_42 (dk_at dksX6_line_2 12 rfl rfl)
theorem dX6_line_58 : decode cX6_line 58 = .ok (.iconst 0, 1) := dk_3 (dk_at dksX6_line_2 13 rfl rfl)
theorem dX6_line_59 : decode cX6_line 59 = .ok (.bipush 30, 2) := dk_16 30 (dk_at dksX6_line_2 14 rfl rfl)
theorem dX6_line_61 : decode cX6_line 61 = .ok (.invokevirtual 103, 3) := dk_182 0 103 (dk_at dksX6_line_2 16 rfl rfl)
theorem dX6_line_64 : decode cX6_line 64 = .ok (.putfield 163, 3) := dk_181 0 163 (dk_at dksX6_line_2 19 rfl rfl)
theorem dX6_line_67 : decode cX6_line 67 = .ok (.goto 86, 3) := dk_167 0 86 (dk_at dksX6_line_3 0 rfl rfl)
theorem dX6_line_70 : decode cX6_line 70 = .ok (.aload_n 0, 1) := dk_42 (dk_at dksX6_line_3 3 rfl rfl)
theorem dX6_line_71 : decode cX6_line 71 = .ok (.ldc 165, 2) := dk_18 165 (dk_at dksX6_line_3 4 rfl rfl)
theorem dX6_line_73 : decode cX6_line 73 = .ok (.invokevirtual 100, 3) := dk_182 0 100 (dk_at dksX6_line_3 6 rfl rfl)
theorem dX6_line_76 : decode cX6_line 76 = .ok (.ifCond .eq 20, 3) := dk_153 0 20 (dk_at dksX6_line_3 9 rfl rfl)
theorem dX6_line_79 : decode cX6_line 79 = .ok (.aload_n 0, 1) := dk_42 (dk_at dksX6_line_3 12 rfl rfl)
theorem dX6_line_80 : decode cX6_line 80 = .ok (.getfield 18, 3) := dk_180 0 18 (dk_at dksX6_line_3 13 rfl rfl)
theorem dX6_line_83 : decode cX6_line 83 = .ok (.aload_n 0, 1) := dk_42 (dk_at dksX6_line_3 16 rfl rfl)
theorem dX6_line_84 : decode cX6_line 84 = .ok (.iconst 0, 1) := dk_3 (dk_at dksX6_line_3 17 rfl rfl)
theorem dX6_line_85 : decode cX6_line 85 = .ok (.bipush 20, 2) := dk_16 20 (dk_at dksX6_line_3 18 rfl rfl)
theorem dX6_line_87 : decode cX6_line 87 = .ok (.invokevirtual 103, 3) := dk_182 0 103 (dk_at dksX6_line_3 20 rfl rfl)
theorem dX6_line_90 : decode cX6_line 90 = .ok (.putfield 167, 3) := dk_181 0 167 (dk_at dksX6_line_4 0 rfl rfl)
theorem dX6_line_93 : decode cX6_line 93 = .ok (.goto 60, 3) := dk_167 0 60 (dk_at dksX6_line_4 3 rfl rfl)
theorem dX6_line_96 : decode cX6_line 96 = .ok (.aload_n 0, 1) := dk_42 (dk_at dksX6_line_4 6 rfl rfl)
theorem dX6_line_97 : decode cX6_line 97 = .ok (.ldc 169, 2) := dk_18 169 (dk_at dksX6_line_4 7 rfl rfl)
theorem dX6_line_99 : decode cX6_line 99 = .ok (.invokevirtual 100, 3) := dk_182 0 100 (dk_at dksX6_line_4 9 rfl rfl)
theorem dX6_line_102 : decode cX6_line 102 = .ok (.ifCond .eq 20, 3) := dk_153 0 20 (dk_at dksX6_line_4 12 rfl rfl)
theorem dX6_line_105 : decode cX6_line 105 = .ok (.aload_n 0, 1) := dk_42 (dk_at dksX6_line_4 15 rfl rfl)
theorem dX6_line_106 : decode cX6_line 106 = .ok (.getfield 18, 3) := dk_180 0 18 (dk_at dksX6_line_4 16 rfl rfl)
theorem dX6_line_109 : decode cX6_line 109 = .ok (.aload_n 0, 1) := dk_42 (dk_at dksX6_line_4 19 rfl rfl)
theorem dX6_line_110 : decode cX6_line 110 = .ok (.iconst 0, 1) := dk_3 (dk_at dksX6_line_4 20 rfl rfl)
theorem dX6_line_111 : decode cX6_line 111 = .ok (.bipush 60, 2) := dk_16 60 (dk_at dksX6_line_4 21 rfl rfl)
theorem dX6_line_113 : decode cX6_line 113 = .ok (.invokevirtual 103, 3) := dk_182 0 103 (dk_at dksX6_line_5 0 rfl rfl)
theorem dX6_line_116 : decode cX6_line 116 = .ok (.putfield 171, 3) := dk_181 0 171 (dk_at dksX6_line_5 3 rfl rfl)
theorem dX6_line_119 : decode cX6_line 119 = .ok (.goto 34, 3) := dk_167 0 34 (dk_at dksX6_line_5 6 rfl rfl)
theorem dX6_line_122 : decode cX6_line 122 = .ok (.aload_n 0, 1) := dk_42 (dk_at dksX6_line_5 9 rfl rfl)
theorem dX6_line_123 : decode cX6_line 123 = .ok (.ldc 173, 2) := dk_18 173 (dk_at dksX6_line_5 10 rfl rfl)
theorem dX6_line_125 : decode cX6_line 125 = .ok (.invokevirtual 100, 3) := dk_182 0 100 (dk_at dksX6_line_5 12 rfl rfl)
theorem dX6_line_128 : decode cX6_line 128 = .ok (.ifCond .eq 21, 3) := dk_153 0 21 (dk_at dksX6_line_5 15 rfl rfl)
theorem dX6_line_131 : decode cX6_line 131 = .ok (.aload_n 0, 1) := dk_42 (dk_at dksX6_line_5 18 rfl rfl)
theorem dX6_line_132 : decode cX6_line 132 = .ok (.getfield 18, 3) := dk_180 0 18 (dk_at dksX6_line_5 19 rfl rfl)
theorem dX6_line_135 : decode cX6_line 135 = .ok (.aload_n 0, 1) := dk_42 (dk_at dksX6_line_5 22 rfl rfl)
theorem dX6_line_136 : decode cX6_line 136 = .ok (.iconst 1, 1) := dk_4 (dk_at dksX6_line_5 23 rfl rfl)
theorem dX6_line_137 : decode cX6_line 137 = .ok (.sipush 200, 3) := dk_17 0 200 (dk_at dksX6_line_6 0 rfl rfl)
theorem dX6_line_140 : decode cX6_line 140 = .ok (.invokevirtual 103, 3) := dk_182 0 103 (dk_at dksX6_line_6 3 rfl rfl)
theorem dX6_line_143 : decode cX6_line 143 = .ok (.putfield 175, 3) := dk_181 0 175 (dk_at dksX6_line_6 6 rfl rfl)
theorem dX6_line_146 : decode cX6_line 146 = .ok (.goto 7, 3) := dk_167 0 7 (dk_at dksX6_line_6 9 rfl rfl)
theorem dX6_line_149 : decode cX6_line 149 = .ok (.aload_n 0, 1) := dk_42 (dk_at dksX6_line_6 12 rfl rfl)
theorem dX6_line_150 : decode cX6_line 150 = .ok (.invokevirtual 177, 3) := dk_182 0 177 (dk_at dksX6_line_6 13 rfl rfl)
theorem dX6_line_153 : decode cX6_line 153 = .ok (.return_, 1) := dk_177 (dk_at dksX6_line_6 16 rfl rfl)
abbrev cX6_is : ByteArray := prog_13_method_7_code
def yX6_is : MethodName := ⟨RX6, "is", "(Ljava/lang/String;)Z"⟩
def dkwX6_is_2 : List UInt8 := [28, 96, 182, 0, 42, 43, 28, 182, 0, 86, 159, 0, 5, 3, 172, 132, 2, 1, 167, 255, 225, 4, 172]
abbrev dktX6_is_2 : List UInt8 := dkwX6_is_2 ++ []
def dkwX6_is_1 : List UInt8 := [43, 182, 0, 80, 159, 0, 5, 3, 172, 3, 61, 28, 43, 182, 0, 80, 162, 0, 29, 42, 42, 180, 0, 61]
abbrev dktX6_is_1 : List UInt8 := dkwX6_is_1 ++ dktX6_is_2
def dkwX6_is_0 : List UInt8 := [42, 180, 0, 77, 154, 0, 27, 42, 180, 0, 64, 4, 160, 0, 19, 42, 180, 0, 58, 42, 180, 0, 61, 100]
abbrev dktX6_is_0 : List UInt8 := dkwX6_is_0 ++ dktX6_is_1
theorem dksX6_is_0 : cX6_is.data.toList.drop 0 = dktX6_is_0 := by decide +kernel
theorem dksX6_is_1 : cX6_is.data.toList.drop 24 = dktX6_is_1 := dk_seg dksX6_is_0 24 rfl rfl
theorem dksX6_is_2 : cX6_is.data.toList.drop 48 = dktX6_is_2 := dk_seg dksX6_is_1 24 rfl rfl
theorem dX6_is_0 : decode cX6_is 0 = .ok (.aload_n 0, 1) := dk_42 (dk_at dksX6_is_0 0 rfl rfl)
theorem dX6_is_1 : decode cX6_is 1 = .ok (.getfield 77, 3) := dk_180 0 77 (dk_at dksX6_is_0 1 rfl rfl)
theorem dX6_is_4 : decode cX6_is 4 = .ok (.ifCond .ne 27, 3) := dk_154 0 27 (dk_at dksX6_is_0 4 rfl rfl)
theorem dX6_is_7 : decode cX6_is 7 = .ok (.aload_n 0, 1) := dk_42 (dk_at dksX6_is_0 7 rfl rfl)
theorem dX6_is_8 : decode cX6_is 8 = .ok (.getfield 64, 3) := dk_180 0 64 (dk_at dksX6_is_0 8 rfl rfl)
theorem dX6_is_11 : decode cX6_is 11 = .ok (.iconst 1, 1) := dk_4 (dk_at dksX6_is_0 11 rfl rfl)
theorem dX6_is_12 : decode cX6_is 12 = .ok (.if_icmp .ne 19, 3) := dk_160 0 19 (dk_at dksX6_is_0 12 rfl rfl)
theorem dX6_is_15 : decode cX6_is 15 = .ok (.aload_n 0, 1) := dk_42 (dk_at dksX6_is_0 15 rfl rfl)
theorem dX6_is_16 : decode cX6_is 16 = .ok (.getfield 58, 3) := dk_180 0 58 (dk_at dksX6_is_0 16 rfl rfl)
theorem dX6_is_19 : decode cX6_is 19 = .ok (.aload_n 0, 1) := dk_42 (dk_at dksX6_is_0 19 rfl rfl)
theorem dX6_is_20 : decode cX6_is 20 = .ok (.getfield 61, 3) := dk_180 0 61 (dk_at dksX6_is_0 20 rfl rfl)
theorem dX6_is_23 : decode cX6_is 23 = .ok (.isub, 1) := dk_100 (dk_at dksX6_is_0 23 rfl rfl)
theorem dX6_is_24 : decode cX6_is 24 = .ok (.aload_n 1, 1) := dk_43 (dk_at dksX6_is_1 0 rfl rfl)
theorem dX6_is_25 : decode cX6_is 25 = .ok (.invokevirtual 80, 3) := dk_182 0 80 (dk_at dksX6_is_1 1 rfl rfl)
theorem dX6_is_28 : decode cX6_is 28 = .ok (.if_icmp .eq 5, 3) := dk_159 0 5 (dk_at dksX6_is_1 4 rfl rfl)
theorem dX6_is_31 : decode cX6_is 31 = .ok (.iconst 0, 1) := dk_3 (dk_at dksX6_is_1 7 rfl rfl)
theorem dX6_is_32 : decode cX6_is 32 = .ok (.ireturn, 1) := dk_172 (dk_at dksX6_is_1 8 rfl rfl)
theorem dX6_is_33 : decode cX6_is 33 = .ok (.iconst 0, 1) := dk_3 (dk_at dksX6_is_1 9 rfl rfl)
theorem dX6_is_34 : decode cX6_is 34 = .ok (.istore_n 2, 1) := dk_61 (dk_at dksX6_is_1 10 rfl rfl)
theorem dX6_is_35 : decode cX6_is 35 = .ok (.iload_n 2, 1) := dk_28 (dk_at dksX6_is_1 11 rfl rfl)
theorem dX6_is_36 : decode cX6_is 36 = .ok (.aload_n 1, 1) := dk_43 (dk_at dksX6_is_1 12 rfl rfl)
theorem dX6_is_37 : decode cX6_is 37 = .ok (.invokevirtual 80, 3) := dk_182 0 80 (dk_at dksX6_is_1 13 rfl rfl)
theorem dX6_is_40 : decode cX6_is 40 = .ok (.if_icmp .ge 29, 3) := dk_162 0 29 (dk_at dksX6_is_1 16 rfl rfl)
theorem dX6_is_43 : decode cX6_is 43 = .ok (.aload_n 0, 1) := dk_42 (dk_at dksX6_is_1 19 rfl rfl)
theorem dX6_is_44 : decode cX6_is 44 = .ok (.aload_n 0, 1) := dk_42 (dk_at dksX6_is_1 20 rfl rfl)
theorem dX6_is_45 : decode cX6_is 45 = .ok (.getfield 61, 3) := dk_180 0 61 (dk_at dksX6_is_1 21 rfl rfl)
theorem dX6_is_48 : decode cX6_is 48 = .ok (.iload_n 2, 1) := dk_28 (dk_at dksX6_is_2 0 rfl rfl)
theorem dX6_is_49 : decode cX6_is 49 = .ok (.iadd, 1) := dk_96 (dk_at dksX6_is_2 1 rfl rfl)
theorem dX6_is_50 : decode cX6_is 50 = .ok (.invokevirtual 42, 3) := dk_182 0 42 (dk_at dksX6_is_2 2 rfl rfl)
theorem dX6_is_53 : decode cX6_is 53 = .ok (.aload_n 1, 1) := dk_43 (dk_at dksX6_is_2 5 rfl rfl)
theorem dX6_is_54 : decode cX6_is 54 = .ok (.iload_n 2, 1) := dk_28 (dk_at dksX6_is_2 6 rfl rfl)
theorem dX6_is_55 : decode cX6_is 55 = .ok (.invokevirtual 86, 3) := dk_182 0 86 (dk_at dksX6_is_2 7 rfl rfl)
theorem dX6_is_58 : decode cX6_is 58 = .ok (.if_icmp .eq 5, 3) := dk_159 0 5 (dk_at dksX6_is_2 10 rfl rfl)
theorem dX6_is_61 : decode cX6_is 61 = .ok (.iconst 0, 1) := dk_3 (dk_at dksX6_is_2 13 rfl rfl)
theorem dX6_is_62 : decode cX6_is 62 = .ok (.ireturn, 1) := dk_172 (dk_at dksX6_is_2 14 rfl rfl)
theorem dX6_is_63 : decode cX6_is 63 = .ok (.iinc 2 1, 3) := dk_132 2 1 (dk_at dksX6_is_2 15 rfl rfl)
theorem dX6_is_66 : decode cX6_is 66 = .ok (.goto (-31), 3) := dk_167 255 225 (dk_at dksX6_is_2 18 rfl rfl)
theorem dX6_is_69 : decode cX6_is 69 = .ok (.iconst 1, 1) := dk_4 (dk_at dksX6_is_2 21 rfl rfl)
theorem dX6_is_70 : decode cX6_is 70 = .ok (.ireturn, 1) := dk_172 (dk_at dksX6_is_2 22 rfl rfl)
abbrev cX6_car : ByteArray := prog_13_method_18_code
def yX6_car : MethodName := ⟨RX6, "car", "()V"⟩
def dkwX6_car_4 : List UInt8 := [183, 0, 199, 182, 0, 202, 87, 177]
abbrev dktX6_car_4 : List UInt8 := dkwX6_car_4 ++ []
def dkwX6_car_3 : List UInt8 := [42, 180, 0, 77, 154, 0, 26, 42, 180, 0, 18, 180, 0, 132, 187, 0, 141, 89, 27, 28, 29, 21, 4]
abbrev dktX6_car_3 : List UInt8 := dkwX6_car_3 ++ dktX6_car_4
def dkwX6_car_2 : List UInt8 := [182, 0, 191, 61, 42, 18, 195, 4, 16, 9, 182, 0, 191, 62, 42, 18, 197, 3, 6, 182, 0, 191, 54, 4]
abbrev dktX6_car_2 : List UInt8 := dkwX6_car_2 ++ dktX6_car_3
def dkwX6_car_1 : List UInt8 := [42, 3, 42, 180, 0, 18, 180, 0, 160, 4, 100, 182, 0, 103, 60, 42, 18, 190, 4, 17, 0, 200]
abbrev dktX6_car_1 : List UInt8 := dkwX6_car_1 ++ dktX6_car_2
def dkwX6_car_0 : List UInt8 := [42, 42, 180, 0, 18, 180, 0, 132, 182, 0, 135, 16, 8, 160, 0, 7, 4, 167, 0, 4, 3, 182, 0, 186]
abbrev dktX6_car_0 : List UInt8 := dkwX6_car_0 ++ dktX6_car_1
theorem dksX6_car_0 : cX6_car.data.toList.drop 0 = dktX6_car_0 := by decide +kernel
theorem dksX6_car_1 : cX6_car.data.toList.drop 24 = dktX6_car_1 := dk_seg dksX6_car_0 24 rfl rfl
theorem dksX6_car_2 : cX6_car.data.toList.drop 46 = dktX6_car_2 := dk_seg dksX6_car_1 22 rfl rfl
theorem dksX6_car_3 : cX6_car.data.toList.drop 70 = dktX6_car_3 := dk_seg dksX6_car_2 24 rfl rfl
theorem dksX6_car_4 : cX6_car.data.toList.drop 93 = dktX6_car_4 := dk_seg dksX6_car_3 23 rfl rfl
theorem dX6_car_0 : decode cX6_car 0 = .ok (.aload_n 0, 1) := dk_42 (dk_at dksX6_car_0 0 rfl rfl)
theorem dX6_car_1 : decode cX6_car 1 = .ok (.aload_n 0, 1) := dk_42 (dk_at dksX6_car_0 1 rfl rfl)
theorem dX6_car_2 : decode cX6_car 2 = .ok (.getfield 18, 3) := dk_180 0 18 (dk_at dksX6_car_0 2 rfl rfl)
theorem dX6_car_5 : decode cX6_car 5 = .ok (.getfield 132, 3) := dk_180 0 132 (dk_at dksX6_car_0 5 rfl rfl)
theorem dX6_car_8 : decode cX6_car 8 = .ok (.invokevirtual 135, 3) := dk_182 0 135 (dk_at dksX6_car_0 8 rfl rfl)
theorem dX6_car_11 : decode cX6_car 11 = .ok (.bipush 8, 2) := dk_16 8 (dk_at dksX6_car_0 11 rfl rfl)
theorem dX6_car_13 : decode cX6_car 13 = .ok (.if_icmp .ne 7, 3) := dk_160 0 7 (dk_at dksX6_car_0 13 rfl rfl)
theorem dX6_car_16 : decode cX6_car 16 = .ok (.iconst 1, 1) := dk_4 (dk_at dksX6_car_0 16 rfl rfl)
theorem dX6_car_17 : decode cX6_car 17 = .ok (.goto 4, 3) := dk_167 0 4 (dk_at dksX6_car_0 17 rfl rfl)
theorem dX6_car_20 : decode cX6_car 20 = .ok (.iconst 0, 1) := dk_3 (dk_at dksX6_car_0 20 rfl rfl)
theorem dX6_car_21 : decode cX6_car 21 = .ok (.invokevirtual 186, 3) := dk_182 0 186 (dk_at dksX6_car_0 21 rfl rfl)
theorem dX6_car_24 : decode cX6_car 24 = .ok (.aload_n 0, 1) := dk_42 (dk_at dksX6_car_1 0 rfl rfl)
theorem dX6_car_25 : decode cX6_car 25 = .ok (.iconst 0, 1) := dk_3 (dk_at dksX6_car_1 1 rfl rfl)
theorem dX6_car_26 : decode cX6_car 26 = .ok (.aload_n 0, 1) := dk_42 (dk_at dksX6_car_1 2 rfl rfl)
theorem dX6_car_27 : decode cX6_car 27 = .ok (.getfield 18, 3) := dk_180 0 18 (dk_at dksX6_car_1 3 rfl rfl)
theorem dX6_car_30 : decode cX6_car 30 = .ok (.getfield 160, 3) := dk_180 0 160 (dk_at dksX6_car_1 6 rfl rfl)
theorem dX6_car_33 : decode cX6_car 33 = .ok (.iconst 1, 1) := dk_4 (dk_at dksX6_car_1 9 rfl rfl)
theorem dX6_car_34 : decode cX6_car 34 = .ok (.isub, 1) := dk_100 (dk_at dksX6_car_1 10 rfl rfl)
theorem dX6_car_35 : decode cX6_car 35 = .ok (.invokevirtual 103, 3) := dk_182 0 103 (dk_at dksX6_car_1 11 rfl rfl)
theorem dX6_car_38 : decode cX6_car 38 = .ok (.istore_n 1, 1) := dk_60 (dk_at dksX6_car_1 14 rfl rfl)
theorem dX6_car_39 : decode cX6_car 39 = .ok (.aload_n 0, 1) := dk_42 (dk_at dksX6_car_1 15 rfl rfl)
theorem dX6_car_40 : decode cX6_car 40 = .ok (.ldc 190, 2) := dk_18 190 (dk_at dksX6_car_1 16 rfl rfl)
theorem dX6_car_42 : decode cX6_car 42 = .ok (.iconst 1, 1) := dk_4 (dk_at dksX6_car_1 18 rfl rfl)
theorem dX6_car_43 : decode cX6_car 43 = .ok (.sipush 200, 3) := dk_17 0 200 (dk_at dksX6_car_1 19 rfl rfl)
theorem dX6_car_46 : decode cX6_car 46 = .ok (.invokevirtual 191, 3) := dk_182 0 191 (dk_at dksX6_car_2 0 rfl rfl)
theorem dX6_car_49 : decode cX6_car 49 = .ok (.istore_n 2, 1) := dk_61 (dk_at dksX6_car_2 3 rfl rfl)
theorem dX6_car_50 : decode cX6_car 50 = .ok (.aload_n 0, 1) := dk_42 (dk_at dksX6_car_2 4 rfl rfl)
theorem dX6_car_51 : decode cX6_car 51 = .ok (.ldc 195, 2) := dk_18 195 (dk_at dksX6_car_2 5 rfl rfl)
theorem dX6_car_53 : decode cX6_car 53 = .ok (.iconst 1, 1) := dk_4 (dk_at dksX6_car_2 7 rfl rfl)
theorem dX6_car_54 : decode cX6_car 54 = .ok (.bipush 9, 2) := dk_16 9 (dk_at dksX6_car_2 8 rfl rfl)
theorem dX6_car_56 : decode cX6_car 56 = .ok (.invokevirtual 191, 3) := dk_182 0 191 (dk_at dksX6_car_2 10 rfl rfl)
theorem dX6_car_59 : decode cX6_car 59 = .ok (.istore_n 3, 1) := dk_62 (dk_at dksX6_car_2 13 rfl rfl)
theorem dX6_car_60 : decode cX6_car 60 = .ok (.aload_n 0, 1) := dk_42 (dk_at dksX6_car_2 14 rfl rfl)
theorem dX6_car_61 : decode cX6_car 61 = .ok (.ldc 197, 2) := dk_18 197 (dk_at dksX6_car_2 15 rfl rfl)
theorem dX6_car_63 : decode cX6_car 63 = .ok (.iconst 0, 1) := dk_3 (dk_at dksX6_car_2 17 rfl rfl)
theorem dX6_car_64 : decode cX6_car 64 = .ok (.iconst 3, 1) := dk_6 (dk_at dksX6_car_2 18 rfl rfl)
theorem dX6_car_65 : decode cX6_car 65 = .ok (.invokevirtual 191, 3) := dk_182 0 191 (dk_at dksX6_car_2 19 rfl rfl)
theorem dX6_car_68 : decode cX6_car 68 = .ok (.istore 4, 2) := dk_54 4 (dk_at dksX6_car_2 22 rfl rfl)
theorem dX6_car_70 : decode cX6_car 70 = .ok (.aload_n 0, 1) := dk_42 (dk_at dksX6_car_3 0 rfl rfl)
theorem dX6_car_71 : decode cX6_car 71 = .ok (.getfield 77, 3) := dk_180 0 77 (dk_at dksX6_car_3 1 rfl rfl)
theorem dX6_car_74 : decode cX6_car 74 = .ok (.ifCond .ne 26, 3) := dk_154 0 26 (dk_at dksX6_car_3 4 rfl rfl)
theorem dX6_car_77 : decode cX6_car 77 = .ok (.aload_n 0, 1) := dk_42 (dk_at dksX6_car_3 7 rfl rfl)
theorem dX6_car_78 : decode cX6_car 78 = .ok (.getfield 18, 3) := dk_180 0 18 (dk_at dksX6_car_3 8 rfl rfl)
theorem dX6_car_81 : decode cX6_car 81 = .ok (.getfield 132, 3) := dk_180 0 132 (dk_at dksX6_car_3 11 rfl rfl)
theorem dX6_car_84 : decode cX6_car 84 = .ok (.new 141, 3) := dk_187 0 141 (dk_at dksX6_car_3 14 rfl rfl)
theorem dX6_car_87 : decode cX6_car 87 = .ok (.dup, 1) := dk_89 (dk_at dksX6_car_3 17 rfl rfl)
theorem dX6_car_88 : decode cX6_car 88 = .ok (.iload_n 1, 1) := dk_27 (dk_at dksX6_car_3 18 rfl rfl)
theorem dX6_car_89 : decode cX6_car 89 = .ok (.iload_n 2, 1) := dk_28 (dk_at dksX6_car_3 19 rfl rfl)
theorem dX6_car_90 : decode cX6_car 90 = .ok (.iload_n 3, 1) := dk_29 (dk_at dksX6_car_3 20 rfl rfl)
theorem dX6_car_91 : decode cX6_car 91 = .ok (.iload 4, 2) := dk_21 4 (dk_at dksX6_car_3 21 rfl rfl)
theorem dX6_car_93 : decode cX6_car 93 = .ok (.invokespecial 199, 3) := dk_183 0 199 (dk_at dksX6_car_4 0 rfl rfl)
theorem dX6_car_96 : decode cX6_car 96 = .ok (.invokevirtual 202, 3) := dk_182 0 202 (dk_at dksX6_car_4 3 rfl rfl)
theorem dX6_car_99 : decode cX6_car 99 = .ok (.pop, 1) := dk_87 (dk_at dksX6_car_4 6 rfl rfl)
theorem dX6_car_100 : decode cX6_car 100 = .ok (.return_, 1) := dk_177 (dk_at dksX6_car_4 7 rfl rfl)
abbrev cX6_space : ByteArray := prog_13_method_12_code
def yX6_space : MethodName := ⟨RX6, "space", "(Z)V"⟩
def dkwX6_space_0 : List UInt8 := [27, 153, 0, 8, 42, 7, 182, 0, 97, 42, 180, 0, 77, 154, 0, 7, 42, 182, 0, 94, 177]
abbrev dktX6_space_0 : List UInt8 := dkwX6_space_0 ++ []
theorem dksX6_space_0 : cX6_space.data.toList.drop 0 = dktX6_space_0 := by decide +kernel
theorem dX6_space_0 : decode cX6_space 0 = .ok (.iload_n 1, 1) := dk_27 (dk_at dksX6_space_0 0 rfl rfl)
theorem dX6_space_1 : decode cX6_space 1 = .ok (.ifCond .eq 8, 3) := dk_153 0 8 (dk_at dksX6_space_0 1 rfl rfl)
theorem dX6_space_4 : decode cX6_space 4 = .ok (.aload_n 0, 1) := dk_42 (dk_at dksX6_space_0 4 rfl rfl)
theorem dX6_space_5 : decode cX6_space 5 = .ok (.iconst 4, 1) := dk_7 (dk_at dksX6_space_0 5 rfl rfl)
theorem dX6_space_6 : decode cX6_space 6 = .ok (.invokevirtual 97, 3) := dk_182 0 97 (dk_at dksX6_space_0 6 rfl rfl)
theorem dX6_space_9 : decode cX6_space 9 = .ok (.aload_n 0, 1) := dk_42 (dk_at dksX6_space_0 9 rfl rfl)
theorem dX6_space_10 : decode cX6_space 10 = .ok (.getfield 77, 3) := dk_180 0 77 (dk_at dksX6_space_0 10 rfl rfl)
theorem dX6_space_13 : decode cX6_space 13 = .ok (.ifCond .ne 7, 3) := dk_154 0 7 (dk_at dksX6_space_0 13 rfl rfl)
theorem dX6_space_16 : decode cX6_space 16 = .ok (.aload_n 0, 1) := dk_42 (dk_at dksX6_space_0 16 rfl rfl)
theorem dX6_space_17 : decode cX6_space 17 = .ok (.invokevirtual 94, 3) := dk_182 0 94 (dk_at dksX6_space_0 17 rfl rfl)
theorem dX6_space_20 : decode cX6_space 20 = .ok (.return_, 1) := dk_177 (dk_at dksX6_space_0 20 rfl rfl)
abbrev cX6_wrong : ByteArray := prog_13_method_6_code
def yX6_wrong : MethodName := ⟨RX6, "wrong", "(I)V"⟩
def dkwX6_wrong_1 : List UInt8 := [181, 0, 77, 42, 42, 180, 0, 61, 181, 0, 31, 177]
abbrev dktX6_wrong_1 : List UInt8 := dkwX6_wrong_1 ++ []
def dkwX6_wrong_0 : List UInt8 := [42, 180, 0, 77, 153, 0, 4, 177, 42, 42, 180, 0, 64, 6, 160, 0, 7, 4, 167, 0, 4, 27]
abbrev dktX6_wrong_0 : List UInt8 := dkwX6_wrong_0 ++ dktX6_wrong_1
theorem dksX6_wrong_0 : cX6_wrong.data.toList.drop 0 = dktX6_wrong_0 := by decide +kernel
theorem dksX6_wrong_1 : cX6_wrong.data.toList.drop 22 = dktX6_wrong_1 := dk_seg dksX6_wrong_0 22 rfl rfl
theorem dX6_wrong_0 : decode cX6_wrong 0 = .ok (.aload_n 0, 1) := dk_42 (dk_at dksX6_wrong_0 0 rfl rfl)
theorem dX6_wrong_1 : decode cX6_wrong 1 = .ok (.getfield 77, 3) := dk_180 0 77 (dk_at dksX6_wrong_0 1 rfl rfl)
theorem dX6_wrong_4 : decode cX6_wrong 4 = .ok (.ifCond .eq 4, 3) := dk_153 0 4 (dk_at dksX6_wrong_0 4 rfl rfl)
theorem dX6_wrong_7 : decode cX6_wrong 7 = .ok (.return_, 1) := dk_177 (dk_at dksX6_wrong_0 7 rfl rfl)
theorem dX6_wrong_8 : decode cX6_wrong 8 = .ok (.aload_n 0, 1) := dk_42 (dk_at dksX6_wrong_0 8 rfl rfl)
theorem dX6_wrong_9 : decode cX6_wrong 9 = .ok (.aload_n 0, 1) := dk_42 (dk_at dksX6_wrong_0 9 rfl rfl)
theorem dX6_wrong_10 : decode cX6_wrong 10 = .ok (.getfield 64, 3) := dk_180 0 64 (dk_at dksX6_wrong_0 10 rfl rfl)
theorem dX6_wrong_13 : decode cX6_wrong 13 = .ok (.iconst 3, 1) := dk_6 (dk_at dksX6_wrong_0 13 rfl rfl)
theorem dX6_wrong_14 : decode cX6_wrong 14 = .ok (.if_icmp .ne 7, 3) := dk_160 0 7 (dk_at dksX6_wrong_0 14 rfl rfl)
theorem dX6_wrong_17 : decode cX6_wrong 17 = .ok (.iconst 1, 1) := dk_4 (dk_at dksX6_wrong_0 17 rfl rfl)
theorem dX6_wrong_18 : decode cX6_wrong 18 = .ok (.goto 4, 3) := dk_167 0 4 (dk_at dksX6_wrong_0 18 rfl rfl)
theorem dX6_wrong_21 : decode cX6_wrong 21 = .ok (.iload_n 1, 1) := dk_27 (dk_at dksX6_wrong_0 21 rfl rfl)
theorem dX6_wrong_22 : decode cX6_wrong 22 = .ok (.putfield 77, 3) := dk_181 0 77 (dk_at dksX6_wrong_1 0 rfl rfl)
theorem dX6_wrong_25 : decode cX6_wrong 25 = .ok (.aload_n 0, 1) := dk_42 (dk_at dksX6_wrong_1 3 rfl rfl)
theorem dX6_wrong_26 : decode cX6_wrong 26 = .ok (.aload_n 0, 1) := dk_42 (dk_at dksX6_wrong_1 4 rfl rfl)
theorem dX6_wrong_27 : decode cX6_wrong 27 = .ok (.getfield 61, 3) := dk_180 0 61 (dk_at dksX6_wrong_1 5 rfl rfl)
theorem dX6_wrong_30 : decode cX6_wrong 30 = .ok (.putfield 31, 3) := dk_181 0 31 (dk_at dksX6_wrong_1 8 rfl rfl)
theorem dX6_wrong_33 : decode cX6_wrong 33 = .ok (.return_, 1) := dk_177 (dk_at dksX6_wrong_1 11 rfl rfl)
abbrev cX6_number : ByteArray := prog_13_method_9_code
def yX6_number : MethodName := ⟨RX6, "number", "(II)I"⟩
def dkwX6_number_2 : List UInt8 := [180, 0, 77, 153, 0, 5, 27, 172, 42, 180, 0, 74, 62, 42, 182, 0, 94, 29, 172]
abbrev dktX6_number_2 : List UInt8 := dkwX6_number_2 ++ []
def dkwX6_number_1 : List UInt8 := [154, 0, 23, 42, 180, 0, 74, 133, 27, 133, 28, 133, 184, 0, 50, 154, 0, 8, 42, 6, 182, 0, 97, 42]
abbrev dktX6_number_1 : List UInt8 := dkwX6_number_1 ++ dktX6_number_2
def dkwX6_number_0 : List UInt8 := [42, 180, 0, 77, 154, 0, 16, 42, 180, 0, 64, 5, 159, 0, 8, 42, 5, 182, 0, 97, 42, 180, 0, 77]
abbrev dktX6_number_0 : List UInt8 := dkwX6_number_0 ++ dktX6_number_1
theorem dksX6_number_0 : cX6_number.data.toList.drop 0 = dktX6_number_0 := by decide +kernel
theorem dksX6_number_1 : cX6_number.data.toList.drop 24 = dktX6_number_1 := dk_seg dksX6_number_0 24 rfl rfl
theorem dksX6_number_2 : cX6_number.data.toList.drop 48 = dktX6_number_2 := dk_seg dksX6_number_1 24 rfl rfl
theorem dX6_number_0 : decode cX6_number 0 = .ok (.aload_n 0, 1) := dk_42 (dk_at dksX6_number_0 0 rfl rfl)
theorem dX6_number_1 : decode cX6_number 1 = .ok (.getfield 77, 3) := dk_180 0 77 (dk_at dksX6_number_0 1 rfl rfl)
theorem dX6_number_4 : decode cX6_number 4 = .ok (.ifCond .ne 16, 3) := dk_154 0 16 (dk_at dksX6_number_0 4 rfl rfl)
theorem dX6_number_7 : decode cX6_number 7 = .ok (.aload_n 0, 1) := dk_42 (dk_at dksX6_number_0 7 rfl rfl)
theorem dX6_number_8 : decode cX6_number 8 = .ok (.getfield 64, 3) := dk_180 0 64 (dk_at dksX6_number_0 8 rfl rfl)
theorem dX6_number_11 : decode cX6_number 11 = .ok (.iconst 2, 1) := dk_5 (dk_at dksX6_number_0 11 rfl rfl)
theorem dX6_number_12 : decode cX6_number 12 = .ok (.if_icmp .eq 8, 3) := dk_159 0 8 (dk_at dksX6_number_0 12 rfl rfl)
theorem dX6_number_15 : decode cX6_number 15 = .ok (.aload_n 0, 1) := dk_42 (dk_at dksX6_number_0 15 rfl rfl)
theorem dX6_number_16 : decode cX6_number 16 = .ok (.iconst 2, 1) := dk_5 (dk_at dksX6_number_0 16 rfl rfl)
theorem dX6_number_17 : decode cX6_number 17 = .ok (.invokevirtual 97, 3) := dk_182 0 97 (dk_at dksX6_number_0 17 rfl rfl)
theorem dX6_number_20 : decode cX6_number 20 = .ok (.aload_n 0, 1) := dk_42 (dk_at dksX6_number_0 20 rfl rfl)
theorem dX6_number_21 : decode cX6_number 21 = .ok (.getfield 77, 3) := dk_180 0 77 (dk_at dksX6_number_0 21 rfl rfl)
theorem dX6_number_24 : decode cX6_number 24 = .ok (.ifCond .ne 23, 3) := dk_154 0 23 (dk_at dksX6_number_1 0 rfl rfl)
theorem dX6_number_27 : decode cX6_number 27 = .ok (.aload_n 0, 1) := dk_42 (dk_at dksX6_number_1 3 rfl rfl)
theorem dX6_number_28 : decode cX6_number 28 = .ok (.getfield 74, 3) := dk_180 0 74 (dk_at dksX6_number_1 4 rfl rfl)
theorem dX6_number_31 : decode cX6_number 31 = .ok (.i2l, 1) := dk_133 (dk_at dksX6_number_1 7 rfl rfl)
theorem dX6_number_32 : decode cX6_number 32 = .ok (.iload_n 1, 1) := dk_27 (dk_at dksX6_number_1 8 rfl rfl)
theorem dX6_number_33 : decode cX6_number 33 = .ok (.i2l, 1) := dk_133 (dk_at dksX6_number_1 9 rfl rfl)
theorem dX6_number_34 : decode cX6_number 34 = .ok (.iload_n 2, 1) := dk_28 (dk_at dksX6_number_1 10 rfl rfl)
theorem dX6_number_35 : decode cX6_number 35 = .ok (.i2l, 1) := dk_133 (dk_at dksX6_number_1 11 rfl rfl)
theorem dX6_number_36 : decode cX6_number 36 = .ok (.invokestatic 50, 3) := dk_184 0 50 (dk_at dksX6_number_1 12 rfl rfl)
theorem dX6_number_39 : decode cX6_number 39 = .ok (.ifCond .ne 8, 3) := dk_154 0 8 (dk_at dksX6_number_1 15 rfl rfl)
theorem dX6_number_42 : decode cX6_number 42 = .ok (.aload_n 0, 1) := dk_42 (dk_at dksX6_number_1 18 rfl rfl)
theorem dX6_number_43 : decode cX6_number 43 = .ok (.iconst 3, 1) := dk_6 (dk_at dksX6_number_1 19 rfl rfl)
theorem dX6_number_44 : decode cX6_number 44 = .ok (.invokevirtual 97, 3) := dk_182 0 97 (dk_at dksX6_number_1 20 rfl rfl)
theorem dX6_number_47 : decode cX6_number 47 = .ok (.aload_n 0, 1) := dk_42 (dk_at dksX6_number_1 23 rfl rfl)
theorem dX6_number_48 : decode cX6_number 48 = .ok (.getfield 77, 3) := dk_180 0 77 (dk_at dksX6_number_2 0 rfl rfl)
theorem dX6_number_51 : decode cX6_number 51 = .ok (.ifCond .eq 5, 3) := dk_153 0 5 (dk_at dksX6_number_2 3 rfl rfl)
theorem dX6_number_54 : decode cX6_number 54 = .ok (.iload_n 1, 1) := dk_27 (dk_at dksX6_number_2 6 rfl rfl)
theorem dX6_number_55 : decode cX6_number 55 = .ok (.ireturn, 1) := dk_172 (dk_at dksX6_number_2 7 rfl rfl)
theorem dX6_number_56 : decode cX6_number 56 = .ok (.aload_n 0, 1) := dk_42 (dk_at dksX6_number_2 8 rfl rfl)
theorem dX6_number_57 : decode cX6_number 57 = .ok (.getfield 74, 3) := dk_180 0 74 (dk_at dksX6_number_2 9 rfl rfl)
theorem dX6_number_60 : decode cX6_number 60 = .ok (.istore_n 3, 1) := dk_62 (dk_at dksX6_number_2 12 rfl rfl)
theorem dX6_number_61 : decode cX6_number 61 = .ok (.aload_n 0, 1) := dk_42 (dk_at dksX6_number_2 13 rfl rfl)
theorem dX6_number_62 : decode cX6_number 62 = .ok (.invokevirtual 94, 3) := dk_182 0 94 (dk_at dksX6_number_2 14 rfl rfl)
theorem dX6_number_65 : decode cX6_number 65 = .ok (.iload_n 3, 1) := dk_29 (dk_at dksX6_number_2 17 rfl rfl)
theorem dX6_number_66 : decode cX6_number 66 = .ok (.ireturn, 1) := dk_172 (dk_at dksX6_number_2 18 rfl rfl)
abbrev cX6_told : ByteArray := prog_13_method_10_code
def yX6_told : MethodName := ⟨RX6, "told", "(Ljava/lang/String;II)I"⟩
def dkwX6_told_0 : List UInt8 := [42, 43, 182, 0, 100, 154, 0, 8, 42, 5, 182, 0, 97, 42, 28, 29, 182, 0, 103, 172]
abbrev dktX6_told_0 : List UInt8 := dkwX6_told_0 ++ []
theorem dksX6_told_0 : cX6_told.data.toList.drop 0 = dktX6_told_0 := by decide +kernel
theorem dX6_told_0 : decode cX6_told 0 = .ok (.aload_n 0, 1) := dk_42 (dk_at dksX6_told_0 0 rfl rfl)
theorem dX6_told_1 : decode cX6_told 1 = .ok (.aload_n 1, 1) := dk_43 (dk_at dksX6_told_0 1 rfl rfl)
theorem dX6_told_2 : decode cX6_told 2 = .ok (.invokevirtual 100, 3) := dk_182 0 100 (dk_at dksX6_told_0 2 rfl rfl)
theorem dX6_told_5 : decode cX6_told 5 = .ok (.ifCond .ne 8, 3) := dk_154 0 8 (dk_at dksX6_told_0 5 rfl rfl)
theorem dX6_told_8 : decode cX6_told 8 = .ok (.aload_n 0, 1) := dk_42 (dk_at dksX6_told_0 8 rfl rfl)
theorem dX6_told_9 : decode cX6_told 9 = .ok (.iconst 2, 1) := dk_5 (dk_at dksX6_told_0 9 rfl rfl)
theorem dX6_told_10 : decode cX6_told 10 = .ok (.invokevirtual 97, 3) := dk_182 0 97 (dk_at dksX6_told_0 10 rfl rfl)
theorem dX6_told_13 : decode cX6_told 13 = .ok (.aload_n 0, 1) := dk_42 (dk_at dksX6_told_0 13 rfl rfl)
theorem dX6_told_14 : decode cX6_told 14 = .ok (.iload_n 2, 1) := dk_28 (dk_at dksX6_told_0 14 rfl rfl)
theorem dX6_told_15 : decode cX6_told 15 = .ok (.iload_n 3, 1) := dk_29 (dk_at dksX6_told_0 15 rfl rfl)
theorem dX6_told_16 : decode cX6_told 16 = .ok (.invokevirtual 103, 3) := dk_182 0 103 (dk_at dksX6_told_0 16 rfl rfl)
theorem dX6_told_19 : decode cX6_told 19 = .ok (.ireturn, 1) := dk_172 (dk_at dksX6_told_0 19 rfl rfl)
abbrev cX6_takes : ByteArray := prog_13_method_8_code
def yX6_takes : MethodName := ⟨RX6, "takes", "(Ljava/lang/String;)Z"⟩
def dkwX6_takes_0 : List UInt8 := [42, 43, 182, 0, 90, 154, 0, 5, 3, 172, 42, 182, 0, 94, 4, 172]
abbrev dktX6_takes_0 : List UInt8 := dkwX6_takes_0 ++ []
theorem dksX6_takes_0 : cX6_takes.data.toList.drop 0 = dktX6_takes_0 := by decide +kernel
theorem dX6_takes_0 : decode cX6_takes 0 = .ok (.aload_n 0, 1) := dk_42 (dk_at dksX6_takes_0 0 rfl rfl)
theorem dX6_takes_1 : decode cX6_takes 1 = .ok (.aload_n 1, 1) := dk_43 (dk_at dksX6_takes_0 1 rfl rfl)
theorem dX6_takes_2 : decode cX6_takes 2 = .ok (.invokevirtual 90, 3) := dk_182 0 90 (dk_at dksX6_takes_0 2 rfl rfl)
theorem dX6_takes_5 : decode cX6_takes 5 = .ok (.ifCond .ne 5, 3) := dk_154 0 5 (dk_at dksX6_takes_0 5 rfl rfl)
theorem dX6_takes_8 : decode cX6_takes 8 = .ok (.iconst 0, 1) := dk_3 (dk_at dksX6_takes_0 8 rfl rfl)
theorem dX6_takes_9 : decode cX6_takes 9 = .ok (.ireturn, 1) := dk_172 (dk_at dksX6_takes_0 9 rfl rfl)
theorem dX6_takes_10 : decode cX6_takes 10 = .ok (.aload_n 0, 1) := dk_42 (dk_at dksX6_takes_0 10 rfl rfl)
theorem dX6_takes_11 : decode cX6_takes 11 = .ok (.invokevirtual 94, 3) := dk_182 0 94 (dk_at dksX6_takes_0 11 rfl rfl)
theorem dX6_takes_14 : decode cX6_takes 14 = .ok (.iconst 1, 1) := dk_4 (dk_at dksX6_takes_0 14 rfl rfl)
theorem dX6_takes_15 : decode cX6_takes 15 = .ok (.ireturn, 1) := dk_172 (dk_at dksX6_takes_0 15 rfl rfl)
abbrev cX6_leastLanes : ByteArray := prog_13_method_15_code
def yX6_leastLanes : MethodName := ⟨RX6, "leastLanes", "()I"⟩
def dkwX6_leastLanes_2 : List UInt8 := [167, 255, 215, 27, 172]
abbrev dktX6_leastLanes_2 : List UInt8 := dkwX6_leastLanes_2 ++ []
def dkwX6_leastLanes_1 : List UInt8 := [180, 0, 132, 28, 182, 0, 137, 192, 0, 141, 180, 0, 143, 4, 96, 184, 0, 146, 60, 132, 2, 1]
abbrev dktX6_leastLanes_1 : List UInt8 := dkwX6_leastLanes_1 ++ dktX6_leastLanes_2
def dkwX6_leastLanes_0 : List UInt8 := [4, 60, 3, 61, 28, 42, 180, 0, 18, 180, 0, 132, 182, 0, 135, 162, 0, 33, 27, 42, 180, 0, 18]
abbrev dktX6_leastLanes_0 : List UInt8 := dkwX6_leastLanes_0 ++ dktX6_leastLanes_1
theorem dksX6_leastLanes_0 : cX6_leastLanes.data.toList.drop 0 = dktX6_leastLanes_0 := by decide +kernel
theorem dksX6_leastLanes_1 : cX6_leastLanes.data.toList.drop 23 = dktX6_leastLanes_1 := dk_seg dksX6_leastLanes_0 23 rfl rfl
theorem dksX6_leastLanes_2 : cX6_leastLanes.data.toList.drop 45 = dktX6_leastLanes_2 := dk_seg dksX6_leastLanes_1 22 rfl rfl
theorem dX6_leastLanes_0 : decode cX6_leastLanes 0 = .ok (.iconst 1, 1) := dk_4 (dk_at dksX6_leastLanes_0 0 rfl rfl)
theorem dX6_leastLanes_1 : decode cX6_leastLanes 1 = .ok (.istore_n 1, 1) := dk_60 (dk_at dksX6_leastLanes_0 1 rfl rfl)
theorem dX6_leastLanes_2 : decode cX6_leastLanes 2 = .ok (.iconst 0, 1) := dk_3 (dk_at dksX6_leastLanes_0 2 rfl rfl)
theorem dX6_leastLanes_3 : decode cX6_leastLanes 3 = .ok (.istore_n 2, 1) := dk_61 (dk_at dksX6_leastLanes_0 3 rfl rfl)
theorem dX6_leastLanes_4 : decode cX6_leastLanes 4 = .ok (.iload_n 2, 1) := dk_28 (dk_at dksX6_leastLanes_0 4 rfl rfl)
theorem dX6_leastLanes_5 : decode cX6_leastLanes 5 = .ok (.aload_n 0, 1) := dk_42 (dk_at dksX6_leastLanes_0 5 rfl rfl)
theorem dX6_leastLanes_6 : decode cX6_leastLanes 6 = .ok (.getfield 18, 3) := dk_180 0 18 (dk_at dksX6_leastLanes_0 6 rfl rfl)
theorem dX6_leastLanes_9 : decode cX6_leastLanes 9 = .ok (.getfield 132, 3) := dk_180 0 132 (dk_at dksX6_leastLanes_0 9 rfl rfl)
theorem dX6_leastLanes_12 : decode cX6_leastLanes 12 = .ok (.invokevirtual 135, 3) := dk_182 0 135 (dk_at dksX6_leastLanes_0 12 rfl rfl)
theorem dX6_leastLanes_15 : decode cX6_leastLanes 15 = .ok (.if_icmp .ge 33, 3) := dk_162 0 33 (dk_at dksX6_leastLanes_0 15 rfl rfl)
theorem dX6_leastLanes_18 : decode cX6_leastLanes 18 = .ok (.iload_n 1, 1) := dk_27 (dk_at dksX6_leastLanes_0 18 rfl rfl)
theorem dX6_leastLanes_19 : decode cX6_leastLanes 19 = .ok (.aload_n 0, 1) := dk_42 (dk_at dksX6_leastLanes_0 19 rfl rfl)
theorem dX6_leastLanes_20 : decode cX6_leastLanes 20 = .ok (.getfield 18, 3) := dk_180 0 18 (dk_at dksX6_leastLanes_0 20 rfl rfl)
theorem dX6_leastLanes_23 : decode cX6_leastLanes 23 = .ok (.getfield 132, 3) := dk_180 0 132 (dk_at dksX6_leastLanes_1 0 rfl rfl)
theorem dX6_leastLanes_26 : decode cX6_leastLanes 26 = .ok (.iload_n 2, 1) := dk_28 (dk_at dksX6_leastLanes_1 3 rfl rfl)
theorem dX6_leastLanes_27 : decode cX6_leastLanes 27 = .ok (.invokevirtual 137, 3) := dk_182 0 137 (dk_at dksX6_leastLanes_1 4 rfl rfl)
theorem dX6_leastLanes_30 : decode cX6_leastLanes 30 = .ok (.checkcast 141, 3) := dk_192 0 141 (dk_at dksX6_leastLanes_1 7 rfl rfl)
theorem dX6_leastLanes_33 : decode cX6_leastLanes 33 = .ok (.getfield 143, 3) := dk_180 0 143 (dk_at dksX6_leastLanes_1 10 rfl rfl)
theorem dX6_leastLanes_36 : decode cX6_leastLanes 36 = .ok (.iconst 1, 1) := dk_4 (dk_at dksX6_leastLanes_1 13 rfl rfl)
theorem dX6_leastLanes_37 : decode cX6_leastLanes 37 = .ok (.iadd, 1) := dk_96 (dk_at dksX6_leastLanes_1 14 rfl rfl)
theorem dX6_leastLanes_38 : decode cX6_leastLanes 38 = .ok (.invokestatic 146, 3) := dk_184 0 146 (dk_at dksX6_leastLanes_1 15 rfl rfl)
theorem dX6_leastLanes_41 : decode cX6_leastLanes 41 = .ok (.istore_n 1, 1) := dk_60 (dk_at dksX6_leastLanes_1 18 rfl rfl)
theorem dX6_leastLanes_42 : decode cX6_leastLanes 42 = .ok (.iinc 2 1, 3) := dk_132 2 1 (dk_at dksX6_leastLanes_1 19 rfl rfl)
theorem dX6_leastLanes_45 : decode cX6_leastLanes 45 = .ok (.goto (-41), 3) := dk_167 255 215 (dk_at dksX6_leastLanes_2 0 rfl rfl)
theorem dX6_leastLanes_48 : decode cX6_leastLanes 48 = .ok (.iload_n 1, 1) := dk_27 (dk_at dksX6_leastLanes_2 3 rfl rfl)
theorem dX6_leastLanes_49 : decode cX6_leastLanes 49 = .ok (.ireturn, 1) := dk_172 (dk_at dksX6_leastLanes_2 4 rfl rfl)
abbrev cX6_traitLine : ByteArray := prog_13_method_17_code
def yX6_traitLine : MethodName := ⟨RX6, "traitLine", "()V"⟩
def dkwX6_traitLine_1 : List UInt8 := [180, 0, 183, 4, 27, 120, 128, 181, 0, 183, 177]
abbrev dktX6_traitLine_1 : List UInt8 := dkwX6_traitLine_1 ++ []
def dkwX6_traitLine_0 : List UInt8 := [42, 182, 0, 180, 60, 27, 2, 160, 0, 11, 42, 5, 182, 0, 97, 167, 0, 18, 42, 180, 0, 18, 89]
abbrev dktX6_traitLine_0 : List UInt8 := dkwX6_traitLine_0 ++ dktX6_traitLine_1
theorem dksX6_traitLine_0 : cX6_traitLine.data.toList.drop 0 = dktX6_traitLine_0 := by decide +kernel
theorem dksX6_traitLine_1 : cX6_traitLine.data.toList.drop 23 = dktX6_traitLine_1 := dk_seg dksX6_traitLine_0 23 rfl rfl
theorem dX6_traitLine_0 : decode cX6_traitLine 0 = .ok (.aload_n 0, 1) := dk_42 (dk_at dksX6_traitLine_0 0 rfl rfl)
theorem dX6_traitLine_1 : decode cX6_traitLine 1 = .ok (.invokevirtual 180, 3) := dk_182 0 180 (dk_at dksX6_traitLine_0 1 rfl rfl)
theorem dX6_traitLine_4 : decode cX6_traitLine 4 = .ok (.istore_n 1, 1) := dk_60 (dk_at dksX6_traitLine_0 4 rfl rfl)
theorem dX6_traitLine_5 : decode cX6_traitLine 5 = .ok (.iload_n 1, 1) := dk_27 (dk_at dksX6_traitLine_0 5 rfl rfl)
theorem dX6_traitLine_6 : decode cX6_traitLine 6 = .ok (.iconst (-1), 1) := dk_2 (dk_at dksX6_traitLine_0 6 rfl rfl)
theorem dX6_traitLine_7 : decode cX6_traitLine 7 = .ok (.if_icmp .ne 11, 3) := dk_160 0 11 (dk_at dksX6_traitLine_0 7 rfl rfl)
theorem dX6_traitLine_10 : decode cX6_traitLine 10 = .ok (.aload_n 0, 1) := dk_42 (dk_at dksX6_traitLine_0 10 rfl rfl)
theorem dX6_traitLine_11 : decode cX6_traitLine 11 = .ok (.iconst 2, 1) := dk_5 (dk_at dksX6_traitLine_0 11 rfl rfl)
theorem dX6_traitLine_12 : decode cX6_traitLine 12 = .ok (.invokevirtual 97, 3) := dk_182 0 97 (dk_at dksX6_traitLine_0 12 rfl rfl)
theorem dX6_traitLine_15 : decode cX6_traitLine 15 = .ok (.goto 18, 3) := dk_167 0 18 (dk_at dksX6_traitLine_0 15 rfl rfl)
theorem dX6_traitLine_18 : decode cX6_traitLine 18 = .ok (.aload_n 0, 1) := dk_42 (dk_at dksX6_traitLine_0 18 rfl rfl)
theorem dX6_traitLine_19 : decode cX6_traitLine 19 = .ok (.getfield 18, 3) := dk_180 0 18 (dk_at dksX6_traitLine_0 19 rfl rfl)
theorem dX6_traitLine_22 : decode cX6_traitLine 22 = .ok (.dup, 1) := dk_89 (dk_at dksX6_traitLine_0 22 rfl rfl)
theorem dX6_traitLine_23 : decode cX6_traitLine 23 = .ok (.getfield 183, 3) := dk_180 0 183 (dk_at dksX6_traitLine_1 0 rfl rfl)
theorem dX6_traitLine_26 : decode cX6_traitLine 26 = .ok (.iconst 1, 1) := dk_4 (dk_at dksX6_traitLine_1 3 rfl rfl)
theorem dX6_traitLine_27 : decode cX6_traitLine 27 = .ok (.iload_n 1, 1) := dk_27 (dk_at dksX6_traitLine_1 4 rfl rfl)
theorem dX6_traitLine_28 : decode cX6_traitLine 28 = .ok (.ishl, 1) := dk_120 (dk_at dksX6_traitLine_1 5 rfl rfl)
theorem dX6_traitLine_29 : decode cX6_traitLine 29 = .ok (.ior, 1) := dk_128 (dk_at dksX6_traitLine_1 6 rfl rfl)
theorem dX6_traitLine_30 : decode cX6_traitLine 30 = .ok (.putfield 183, 3) := dk_181 0 183 (dk_at dksX6_traitLine_1 7 rfl rfl)
theorem dX6_traitLine_33 : decode cX6_traitLine 33 = .ok (.return_, 1) := dk_177 (dk_at dksX6_traitLine_1 10 rfl rfl)
abbrev cX6_trait : ByteArray := prog_13_method_13_code
def yX6_trait : MethodName := ⟨RX6, "trait", "()I"⟩
def dkwX6_trait_4 : List UInt8 := [167, 0, 4, 2, 172]
abbrev dktX6_trait_4 : List UInt8 := dkwX6_trait_4 ++ []
def dkwX6_trait_3 : List UInt8 := [182, 0, 100, 153, 0, 8, 16, 6, 167, 0, 18, 42, 18, 121, 182, 0, 100, 153, 0, 8, 16, 7]
abbrev dktX6_trait_3 : List UInt8 := dkwX6_trait_3 ++ dktX6_trait_4
def dkwX6_trait_2 : List UInt8 := [182, 0, 100, 153, 0, 5, 7, 172, 42, 18, 117, 182, 0, 100, 153, 0, 5, 8, 172, 42, 18, 119]
abbrev dktX6_trait_2 : List UInt8 := dkwX6_trait_2 ++ dktX6_trait_3
def dkwX6_trait_1 : List UInt8 := [18, 111, 182, 0, 100, 153, 0, 5, 5, 172, 42, 18, 113, 182, 0, 100, 153, 0, 5, 6, 172, 42, 18, 115]
abbrev dktX6_trait_1 : List UInt8 := dkwX6_trait_1 ++ dktX6_trait_2
def dkwX6_trait_0 : List UInt8 := [42, 18, 107, 182, 0, 100, 153, 0, 5, 3, 172, 42, 18, 109, 182, 0, 100, 153, 0, 5, 4, 172, 42]
abbrev dktX6_trait_0 : List UInt8 := dkwX6_trait_0 ++ dktX6_trait_1
theorem dksX6_trait_0 : cX6_trait.data.toList.drop 0 = dktX6_trait_0 := by decide +kernel
theorem dksX6_trait_1 : cX6_trait.data.toList.drop 23 = dktX6_trait_1 := dk_seg dksX6_trait_0 23 rfl rfl
theorem dksX6_trait_2 : cX6_trait.data.toList.drop 47 = dktX6_trait_2 := dk_seg dksX6_trait_1 24 rfl rfl
theorem dksX6_trait_3 : cX6_trait.data.toList.drop 69 = dktX6_trait_3 := dk_seg dksX6_trait_2 22 rfl rfl
theorem dksX6_trait_4 : cX6_trait.data.toList.drop 91 = dktX6_trait_4 := dk_seg dksX6_trait_3 22 rfl rfl
theorem dX6_trait_0 : decode cX6_trait 0 = .ok (.aload_n 0, 1) := dk_42 (dk_at dksX6_trait_0 0 rfl rfl)
theorem dX6_trait_1 : decode cX6_trait 1 = .ok (.ldc 107, 2) := dk_18 107 (dk_at dksX6_trait_0 1 rfl rfl)
theorem dX6_trait_3 : decode cX6_trait 3 = .ok (.invokevirtual 100, 3) := dk_182 0 100 (dk_at dksX6_trait_0 3 rfl rfl)
theorem dX6_trait_6 : decode cX6_trait 6 = .ok (.ifCond .eq 5, 3) := dk_153 0 5 (dk_at dksX6_trait_0 6 rfl rfl)
theorem dX6_trait_9 : decode cX6_trait 9 = .ok (.iconst 0, 1) := dk_3 (dk_at dksX6_trait_0 9 rfl rfl)
theorem dX6_trait_10 : decode cX6_trait 10 = .ok (.ireturn, 1) := dk_172 (dk_at dksX6_trait_0 10 rfl rfl)
theorem dX6_trait_11 : decode cX6_trait 11 = .ok (.aload_n 0, 1) := dk_42 (dk_at dksX6_trait_0 11 rfl rfl)
theorem dX6_trait_12 : decode cX6_trait 12 = .ok (.ldc 109, 2) := dk_18 109 (dk_at dksX6_trait_0 12 rfl rfl)
theorem dX6_trait_14 : decode cX6_trait 14 = .ok (.invokevirtual 100, 3) := dk_182 0 100 (dk_at dksX6_trait_0 14 rfl rfl)
theorem dX6_trait_17 : decode cX6_trait 17 = .ok (.ifCond .eq 5, 3) := dk_153 0 5 (dk_at dksX6_trait_0 17 rfl rfl)
theorem dX6_trait_20 : decode cX6_trait 20 = .ok (.iconst 1, 1) := dk_4 (dk_at dksX6_trait_0 20 rfl rfl)
theorem dX6_trait_21 : decode cX6_trait 21 = .ok (.ireturn, 1) := dk_172 (dk_at dksX6_trait_0 21 rfl rfl)
theorem dX6_trait_22 : decode cX6_trait 22 = .ok (.aload_n 0, 1) := dk_42 (dk_at dksX6_trait_0 22 rfl rfl)
theorem dX6_trait_23 : decode cX6_trait 23 = .ok (.ldc 111, 2) := dk_18 111 (dk_at dksX6_trait_1 0 rfl rfl)
theorem dX6_trait_25 : decode cX6_trait 25 = .ok (.invokevirtual 100, 3) := dk_182 0 100 (dk_at dksX6_trait_1 2 rfl rfl)
theorem dX6_trait_28 : decode cX6_trait 28 = .ok (.ifCond .eq 5, 3) := dk_153 0 5 (dk_at dksX6_trait_1 5 rfl rfl)
theorem dX6_trait_31 : decode cX6_trait 31 = .ok (.iconst 2, 1) := dk_5 (dk_at dksX6_trait_1 8 rfl rfl)
theorem dX6_trait_32 : decode cX6_trait 32 = .ok (.ireturn, 1) := dk_172 (dk_at dksX6_trait_1 9 rfl rfl)
theorem dX6_trait_33 : decode cX6_trait 33 = .ok (.aload_n 0, 1) := dk_42 (dk_at dksX6_trait_1 10 rfl rfl)
theorem dX6_trait_34 : decode cX6_trait 34 = .ok (.ldc 113, 2) := dk_18 113 (dk_at dksX6_trait_1 11 rfl rfl)
theorem dX6_trait_36 : decode cX6_trait 36 = .ok (.invokevirtual 100, 3) := dk_182 0 100 (dk_at dksX6_trait_1 13 rfl rfl)
theorem dX6_trait_39 : decode cX6_trait 39 = .ok (.ifCond .eq 5, 3) := dk_153 0 5 (dk_at dksX6_trait_1 16 rfl rfl)
theorem dX6_trait_42 : decode cX6_trait 42 = .ok (.iconst 3, 1) := dk_6 (dk_at dksX6_trait_1 19 rfl rfl)
theorem dX6_trait_43 : decode cX6_trait 43 = .ok (.ireturn, 1) := dk_172 (dk_at dksX6_trait_1 20 rfl rfl)
theorem dX6_trait_44 : decode cX6_trait 44 = .ok (.aload_n 0, 1) := dk_42 (dk_at dksX6_trait_1 21 rfl rfl)
theorem dX6_trait_45 : decode cX6_trait 45 = .ok (.ldc 115, 2) := dk_18 115 (dk_at dksX6_trait_1 22 rfl rfl)
theorem dX6_trait_47 : decode cX6_trait 47 = .ok (.invokevirtual 100, 3) := dk_182 0 100 (dk_at dksX6_trait_2 0 rfl rfl)
theorem dX6_trait_50 : decode cX6_trait 50 = .ok (.ifCond .eq 5, 3) := dk_153 0 5 (dk_at dksX6_trait_2 3 rfl rfl)
theorem dX6_trait_53 : decode cX6_trait 53 = .ok (.iconst 4, 1) := dk_7 (dk_at dksX6_trait_2 6 rfl rfl)
theorem dX6_trait_54 : decode cX6_trait 54 = .ok (.ireturn, 1) := dk_172 (dk_at dksX6_trait_2 7 rfl rfl)
theorem dX6_trait_55 : decode cX6_trait 55 = .ok (.aload_n 0, 1) := dk_42 (dk_at dksX6_trait_2 8 rfl rfl)
theorem dX6_trait_56 : decode cX6_trait 56 = .ok (.ldc 117, 2) := dk_18 117 (dk_at dksX6_trait_2 9 rfl rfl)
theorem dX6_trait_58 : decode cX6_trait 58 = .ok (.invokevirtual 100, 3) := dk_182 0 100 (dk_at dksX6_trait_2 11 rfl rfl)
theorem dX6_trait_61 : decode cX6_trait 61 = .ok (.ifCond .eq 5, 3) := dk_153 0 5 (dk_at dksX6_trait_2 14 rfl rfl)
theorem dX6_trait_64 : decode cX6_trait 64 = .ok (.iconst 5, 1) := dk_8 (dk_at dksX6_trait_2 17 rfl rfl)
theorem dX6_trait_65 : decode cX6_trait 65 = .ok (.ireturn, 1) := dk_172 (dk_at dksX6_trait_2 18 rfl rfl)
theorem dX6_trait_66 : decode cX6_trait 66 = .ok (.aload_n 0, 1) := dk_42 (dk_at dksX6_trait_2 19 rfl rfl)
theorem dX6_trait_67 : decode cX6_trait 67 = .ok (.ldc 119, 2) := dk_18 119 (dk_at dksX6_trait_2 20 rfl rfl)
theorem dX6_trait_69 : decode cX6_trait 69 = .ok (.invokevirtual 100, 3) := dk_182 0 100 (dk_at dksX6_trait_3 0 rfl rfl)
theorem dX6_trait_72 : decode cX6_trait 72 = .ok (.ifCond .eq 8, 3) := dk_153 0 8 (dk_at dksX6_trait_3 3 rfl rfl)
theorem dX6_trait_75 : decode cX6_trait 75 = .ok (.bipush 6, 2) := dk_16 6 (dk_at dksX6_trait_3 6 rfl rfl)
theorem dX6_trait_77 : decode cX6_trait 77 = .ok (.goto 18, 3) := dk_167 0 18 (dk_at dksX6_trait_3 8 rfl rfl)
theorem dX6_trait_80 : decode cX6_trait 80 = .ok (.aload_n 0, 1) := dk_42 (dk_at dksX6_trait_3 11 rfl rfl)
theorem dX6_trait_81 : decode cX6_trait 81 = .ok (.ldc 121, 2) := dk_18 121 (dk_at dksX6_trait_3 12 rfl rfl)
theorem dX6_trait_83 : decode cX6_trait 83 = .ok (.invokevirtual 100, 3) := dk_182 0 100 (dk_at dksX6_trait_3 14 rfl rfl)
theorem dX6_trait_86 : decode cX6_trait 86 = .ok (.ifCond .eq 8, 3) := dk_153 0 8 (dk_at dksX6_trait_3 17 rfl rfl)
theorem dX6_trait_89 : decode cX6_trait 89 = .ok (.bipush 7, 2) := dk_16 7 (dk_at dksX6_trait_3 20 rfl rfl)
theorem dX6_trait_91 : decode cX6_trait 91 = .ok (.goto 4, 3) := dk_167 0 4 (dk_at dksX6_trait_4 0 rfl rfl)
theorem dX6_trait_94 : decode cX6_trait 94 = .ok (.iconst (-1), 1) := dk_2 (dk_at dksX6_trait_4 3 rfl rfl)
theorem dX6_trait_95 : decode cX6_trait 95 = .ok (.ireturn, 1) := dk_172 (dk_at dksX6_trait_4 4 rfl rfl)
abbrev cX6_over : ByteArray := prog_13_method_11_code
def yX6_over : MethodName := ⟨RX6, "over", "()V"⟩
def dkwX6_over_1 : List UInt8 := [180, 0, 77, 154, 0, 7, 42, 182, 0, 94, 177]
abbrev dktX6_over_1 : List UInt8 := dkwX6_over_1 ++ []
def dkwX6_over_0 : List UInt8 := [42, 180, 0, 77, 154, 0, 17, 42, 180, 0, 64, 16, 59, 159, 0, 8, 42, 5, 182, 0, 97, 42]
abbrev dktX6_over_0 : List UInt8 := dkwX6_over_0 ++ dktX6_over_1
theorem dksX6_over_0 : cX6_over.data.toList.drop 0 = dktX6_over_0 := by decide +kernel
theorem dksX6_over_1 : cX6_over.data.toList.drop 22 = dktX6_over_1 := dk_seg dksX6_over_0 22 rfl rfl
theorem dX6_over_0 : decode cX6_over 0 = .ok (.aload_n 0, 1) := dk_42 (dk_at dksX6_over_0 0 rfl rfl)
theorem dX6_over_1 : decode cX6_over 1 = .ok (.getfield 77, 3) := dk_180 0 77 (dk_at dksX6_over_0 1 rfl rfl)
theorem dX6_over_4 : decode cX6_over 4 = .ok (.ifCond .ne 17, 3) := dk_154 0 17 (dk_at dksX6_over_0 4 rfl rfl)
theorem dX6_over_7 : decode cX6_over 7 = .ok (.aload_n 0, 1) := dk_42 (dk_at dksX6_over_0 7 rfl rfl)
theorem dX6_over_8 : decode cX6_over 8 = .ok (.getfield 64, 3) := dk_180 0 64 (dk_at dksX6_over_0 8 rfl rfl)
theorem dX6_over_11 : decode cX6_over 11 = .ok (.bipush 59, 2) := dk_16 59 (dk_at dksX6_over_0 11 rfl rfl)
theorem dX6_over_13 : decode cX6_over 13 = .ok (.if_icmp .eq 8, 3) := dk_159 0 8 (dk_at dksX6_over_0 13 rfl rfl)
theorem dX6_over_16 : decode cX6_over 16 = .ok (.aload_n 0, 1) := dk_42 (dk_at dksX6_over_0 16 rfl rfl)
theorem dX6_over_17 : decode cX6_over 17 = .ok (.iconst 2, 1) := dk_5 (dk_at dksX6_over_0 17 rfl rfl)
theorem dX6_over_18 : decode cX6_over 18 = .ok (.invokevirtual 97, 3) := dk_182 0 97 (dk_at dksX6_over_0 18 rfl rfl)
theorem dX6_over_21 : decode cX6_over 21 = .ok (.aload_n 0, 1) := dk_42 (dk_at dksX6_over_0 21 rfl rfl)
theorem dX6_over_22 : decode cX6_over 22 = .ok (.getfield 77, 3) := dk_180 0 77 (dk_at dksX6_over_1 0 rfl rfl)
theorem dX6_over_25 : decode cX6_over 25 = .ok (.ifCond .ne 7, 3) := dk_154 0 7 (dk_at dksX6_over_1 3 rfl rfl)
theorem dX6_over_28 : decode cX6_over 28 = .ok (.aload_n 0, 1) := dk_42 (dk_at dksX6_over_1 6 rfl rfl)
theorem dX6_over_29 : decode cX6_over 29 = .ok (.invokevirtual 94, 3) := dk_182 0 94 (dk_at dksX6_over_1 7 rfl rfl)
theorem dX6_over_32 : decode cX6_over 32 = .ok (.return_, 1) := dk_177 (dk_at dksX6_over_1 10 rfl rfl)
abbrev cX6_law : ByteArray := prog_13_method_19_code
def yX6_law : MethodName := ⟨RX6, "law", "()V"⟩
def dkwX6_law_4 : List UInt8 := [187, 0, 214, 89, 27, 44, 183, 0, 216, 182, 0, 202, 87, 167, 255, 152, 177]
abbrev dktX6_law_4 : List UInt8 := dkwX6_law_4 ++ []
def dkwX6_law_3 : List UInt8 := [182, 0, 100, 154, 0, 8, 42, 5, 182, 0, 97, 42, 182, 0, 210, 77, 42, 182, 0, 126, 42, 180, 0, 27]
abbrev dktX6_law_3 : List UInt8 := dkwX6_law_3 ++ dktX6_law_4
def dkwX6_law_2 : List UInt8 := [16, 12, 160, 0, 7, 4, 167, 0, 4, 3, 182, 0, 186, 42, 3, 16, 100, 182, 0, 103, 60, 42, 18, 208]
abbrev dktX6_law_2 : List UInt8 := dkwX6_law_2 ++ dktX6_law_3
def dkwX6_law_1 : List UInt8 := [154, 0, 8, 42, 5, 182, 0, 97, 42, 180, 0, 77, 154, 0, 24, 42, 42, 180, 0, 27, 182, 0, 135]
abbrev dktX6_law_1 : List UInt8 := dkwX6_law_1 ++ dktX6_law_2
def dkwX6_law_0 : List UInt8 := [42, 182, 0, 94, 42, 180, 0, 77, 154, 0, 103, 42, 180, 0, 64, 153, 0, 96, 42, 18, 206, 182, 0, 90]
abbrev dktX6_law_0 : List UInt8 := dkwX6_law_0 ++ dktX6_law_1
theorem dksX6_law_0 : cX6_law.data.toList.drop 0 = dktX6_law_0 := by decide +kernel
theorem dksX6_law_1 : cX6_law.data.toList.drop 24 = dktX6_law_1 := dk_seg dksX6_law_0 24 rfl rfl
theorem dksX6_law_2 : cX6_law.data.toList.drop 47 = dktX6_law_2 := dk_seg dksX6_law_1 23 rfl rfl
theorem dksX6_law_3 : cX6_law.data.toList.drop 71 = dktX6_law_3 := dk_seg dksX6_law_2 24 rfl rfl
theorem dksX6_law_4 : cX6_law.data.toList.drop 95 = dktX6_law_4 := dk_seg dksX6_law_3 24 rfl rfl
theorem dX6_law_0 : decode cX6_law 0 = .ok (.aload_n 0, 1) := dk_42 (dk_at dksX6_law_0 0 rfl rfl)
theorem dX6_law_1 : decode cX6_law 1 = .ok (.invokevirtual 94, 3) := dk_182 0 94 (dk_at dksX6_law_0 1 rfl rfl)
theorem dX6_law_4 : decode cX6_law 4 = .ok (.aload_n 0, 1) := dk_42 (dk_at dksX6_law_0 4 rfl rfl)
theorem dX6_law_5 : decode cX6_law 5 = .ok (.getfield 77, 3) := dk_180 0 77 (dk_at dksX6_law_0 5 rfl rfl)
theorem dX6_law_8 : decode cX6_law 8 = .ok (.ifCond .ne 103, 3) := dk_154 0 103 (dk_at dksX6_law_0 8 rfl rfl)
theorem dX6_law_11 : decode cX6_law 11 = .ok (.aload_n 0, 1) := dk_42 (dk_at dksX6_law_0 11 rfl rfl)
theorem dX6_law_12 : decode cX6_law 12 = .ok (.getfield 64, 3) := dk_180 0 64 (dk_at dksX6_law_0 12 rfl rfl)
theorem dX6_law_15 : decode cX6_law 15 = .ok (.ifCond .eq 96, 3) := dk_153 0 96 (dk_at dksX6_law_0 15 rfl rfl)
theorem dX6_law_18 : decode cX6_law 18 = .ok (.aload_n 0, 1) := dk_42 (dk_at dksX6_law_0 18 rfl rfl)
theorem dX6_law_19 : decode cX6_law 19 = .ok (.ldc 206, 2) := dk_18 206 (dk_at dksX6_law_0 19 rfl rfl)
theorem dX6_law_21 : decode cX6_law 21 = .ok (.invokevirtual 90, 3) := dk_182 0 90 (dk_at dksX6_law_0 21 rfl rfl)
theorem dX6_law_24 : decode cX6_law 24 = .ok (.ifCond .ne 8, 3) := dk_154 0 8 (dk_at dksX6_law_1 0 rfl rfl)
theorem dX6_law_27 : decode cX6_law 27 = .ok (.aload_n 0, 1) := dk_42 (dk_at dksX6_law_1 3 rfl rfl)
theorem dX6_law_28 : decode cX6_law 28 = .ok (.iconst 2, 1) := dk_5 (dk_at dksX6_law_1 4 rfl rfl)
theorem dX6_law_29 : decode cX6_law 29 = .ok (.invokevirtual 97, 3) := dk_182 0 97 (dk_at dksX6_law_1 5 rfl rfl)
theorem dX6_law_32 : decode cX6_law 32 = .ok (.aload_n 0, 1) := dk_42 (dk_at dksX6_law_1 8 rfl rfl)
theorem dX6_law_33 : decode cX6_law 33 = .ok (.getfield 77, 3) := dk_180 0 77 (dk_at dksX6_law_1 9 rfl rfl)
theorem dX6_law_36 : decode cX6_law 36 = .ok (.ifCond .ne 24, 3) := dk_154 0 24 (dk_at dksX6_law_1 12 rfl rfl)
theorem dX6_law_39 : decode cX6_law 39 = .ok (.aload_n 0, 1) := dk_42 (dk_at dksX6_law_1 15 rfl rfl)
theorem dX6_law_40 : decode cX6_law 40 = .ok (.aload_n 0, 1) := dk_42 (dk_at dksX6_law_1 16 rfl rfl)
theorem dX6_law_41 : decode cX6_law 41 = .ok (.getfield 27, 3) := dk_180 0 27 (dk_at dksX6_law_1 17 rfl rfl)
theorem dX6_law_44 : decode cX6_law 44 = .ok (.invokevirtual 135, 3) := dk_182 0 135 (dk_at dksX6_law_1 20 rfl rfl)
theorem dX6_law_47 : decode cX6_law 47 = .ok (.bipush 12, 2) := dk_16 12 (dk_at dksX6_law_2 0 rfl rfl)
theorem dX6_law_49 : decode cX6_law 49 = .ok (.if_icmp .ne 7, 3) := dk_160 0 7 (dk_at dksX6_law_2 2 rfl rfl)
theorem dX6_law_52 : decode cX6_law 52 = .ok (.iconst 1, 1) := dk_4 (dk_at dksX6_law_2 5 rfl rfl)
theorem dX6_law_53 : decode cX6_law 53 = .ok (.goto 4, 3) := dk_167 0 4 (dk_at dksX6_law_2 6 rfl rfl)
theorem dX6_law_56 : decode cX6_law 56 = .ok (.iconst 0, 1) := dk_3 (dk_at dksX6_law_2 9 rfl rfl)
theorem dX6_law_57 : decode cX6_law 57 = .ok (.invokevirtual 186, 3) := dk_182 0 186 (dk_at dksX6_law_2 10 rfl rfl)
theorem dX6_law_60 : decode cX6_law 60 = .ok (.aload_n 0, 1) := dk_42 (dk_at dksX6_law_2 13 rfl rfl)
theorem dX6_law_61 : decode cX6_law 61 = .ok (.iconst 0, 1) := dk_3 (dk_at dksX6_law_2 14 rfl rfl)
theorem dX6_law_62 : decode cX6_law 62 = .ok (.bipush 100, 2) := dk_16 100 (dk_at dksX6_law_2 15 rfl rfl)
theorem dX6_law_64 : decode cX6_law 64 = .ok (.invokevirtual 103, 3) := dk_182 0 103 (dk_at dksX6_law_2 17 rfl rfl)
theorem dX6_law_67 : decode cX6_law 67 = .ok (.istore_n 1, 1) := dk_60 (dk_at dksX6_law_2 20 rfl rfl)
theorem dX6_law_68 : decode cX6_law 68 = .ok (.aload_n 0, 1) := dk_42 (dk_at dksX6_law_2 21 rfl rfl)
theorem dX6_law_69 : decode cX6_law 69 = .ok (.ldc 208, 2) := dk_18 208 (dk_at dksX6_law_2 22 rfl rfl)
theorem dX6_law_71 : decode cX6_law 71 = .ok (.invokevirtual 100, 3) := dk_182 0 100 (dk_at dksX6_law_3 0 rfl rfl)
theorem dX6_law_74 : decode cX6_law 74 = .ok (.ifCond .ne 8, 3) := dk_154 0 8 (dk_at dksX6_law_3 3 rfl rfl)
theorem dX6_law_77 : decode cX6_law 77 = .ok (.aload_n 0, 1) := dk_42 (dk_at dksX6_law_3 6 rfl rfl)
theorem dX6_law_78 : decode cX6_law 78 = .ok (.iconst 2, 1) := dk_5 (dk_at dksX6_law_3 7 rfl rfl)
theorem dX6_law_79 : decode cX6_law 79 = .ok (.invokevirtual 97, 3) := dk_182 0 97 (dk_at dksX6_law_3 8 rfl rfl)
theorem dX6_law_82 : decode cX6_law 82 = .ok (.aload_n 0, 1) := dk_42 (dk_at dksX6_law_3 11 rfl rfl)
theorem dX6_law_83 : decode cX6_law 83 = .ok (.invokevirtual 210, 3) := dk_182 0 210 (dk_at dksX6_law_3 12 rfl rfl)
theorem dX6_law_86 : decode cX6_law 86 = .ok (.astore_n 2, 1) := dk_77 (dk_at dksX6_law_3 15 rfl rfl)
theorem dX6_law_87 : decode cX6_law 87 = .ok (.aload_n 0, 1) := dk_42 (dk_at dksX6_law_3 16 rfl rfl)
theorem dX6_law_88 : decode cX6_law 88 = .ok (.invokevirtual 126, 3) := dk_182 0 126 (dk_at dksX6_law_3 17 rfl rfl)
theorem dX6_law_91 : decode cX6_law 91 = .ok (.aload_n 0, 1) := dk_42 (dk_at dksX6_law_3 20 rfl rfl)
theorem dX6_law_92 : decode cX6_law 92 = .ok (.getfield 27, 3) := dk_180 0 27 (dk_at dksX6_law_3 21 rfl rfl)
theorem dX6_law_95 : decode cX6_law 95 = .ok (.new 214, 3) := dk_187 0 214 (dk_at dksX6_law_4 0 rfl rfl)
theorem dX6_law_98 : decode cX6_law 98 = .ok (.dup, 1) := dk_89 (dk_at dksX6_law_4 3 rfl rfl)
theorem dX6_law_99 : decode cX6_law 99 = .ok (.iload_n 1, 1) := dk_27 (dk_at dksX6_law_4 4 rfl rfl)
theorem dX6_law_100 : decode cX6_law 100 = .ok (.aload_n 2, 1) := dk_44 (dk_at dksX6_law_4 5 rfl rfl)
theorem dX6_law_101 : decode cX6_law 101 = .ok (.invokespecial 216, 3) := dk_183 0 216 (dk_at dksX6_law_4 6 rfl rfl)
theorem dX6_law_104 : decode cX6_law 104 = .ok (.invokevirtual 202, 3) := dk_182 0 202 (dk_at dksX6_law_4 9 rfl rfl)
theorem dX6_law_107 : decode cX6_law 107 = .ok (.pop, 1) := dk_87 (dk_at dksX6_law_4 12 rfl rfl)
theorem dX6_law_108 : decode cX6_law 108 = .ok (.goto (-104), 3) := dk_167 255 152 (dk_at dksX6_law_4 13 rfl rfl)
theorem dX6_law_111 : decode cX6_law 111 = .ok (.return_, 1) := dk_177 (dk_at dksX6_law_4 16 rfl rfl)
abbrev cX6_some : ByteArray := prog_13_method_20_code
def yX6_some : MethodName := ⟨RX6, "some", "()LFootOut$Fact;"⟩
def dkwX6_some_1 : List UInt8 := [183, 0, 226, 76, 167, 255, 233, 43, 176]
abbrev dktX6_some_1 : List UInt8 := dkwX6_some_1 ++ []
def dkwX6_some_0 : List UInt8 := [42, 182, 0, 219, 76, 42, 18, 222, 182, 0, 100, 153, 0, 20, 187, 0, 224, 89, 3, 43, 42, 182, 0, 219]
abbrev dktX6_some_0 : List UInt8 := dkwX6_some_0 ++ dktX6_some_1
theorem dksX6_some_0 : cX6_some.data.toList.drop 0 = dktX6_some_0 := by decide +kernel
theorem dksX6_some_1 : cX6_some.data.toList.drop 24 = dktX6_some_1 := dk_seg dksX6_some_0 24 rfl rfl
theorem dX6_some_0 : decode cX6_some 0 = .ok (.aload_n 0, 1) := dk_42 (dk_at dksX6_some_0 0 rfl rfl)
theorem dX6_some_1 : decode cX6_some 1 = .ok (.invokevirtual 219, 3) := dk_182 0 219 (dk_at dksX6_some_0 1 rfl rfl)
theorem dX6_some_4 : decode cX6_some 4 = .ok (.astore_n 1, 1) := dk_76 (dk_at dksX6_some_0 4 rfl rfl)
theorem dX6_some_5 : decode cX6_some 5 = .ok (.aload_n 0, 1) := dk_42 (dk_at dksX6_some_0 5 rfl rfl)
theorem dX6_some_6 : decode cX6_some 6 = .ok (.ldc 222, 2) := dk_18 222 (dk_at dksX6_some_0 6 rfl rfl)
theorem dX6_some_8 : decode cX6_some 8 = .ok (.invokevirtual 100, 3) := dk_182 0 100 (dk_at dksX6_some_0 8 rfl rfl)
theorem dX6_some_11 : decode cX6_some 11 = .ok (.ifCond .eq 20, 3) := dk_153 0 20 (dk_at dksX6_some_0 11 rfl rfl)
theorem dX6_some_14 : decode cX6_some 14 = .ok (.new 224, 3) := dk_187 0 224 (dk_at dksX6_some_0 14 rfl rfl)
theorem dX6_some_17 : decode cX6_some 17 = .ok (.dup, 1) := dk_89 (dk_at dksX6_some_0 17 rfl rfl)
theorem dX6_some_18 : decode cX6_some 18 = .ok (.iconst 0, 1) := dk_3 (dk_at dksX6_some_0 18 rfl rfl)
theorem dX6_some_19 : decode cX6_some 19 = .ok (.aload_n 1, 1) := dk_43 (dk_at dksX6_some_0 19 rfl rfl)
theorem dX6_some_20 : decode cX6_some 20 = .ok (.aload_n 0, 1) := dk_42 (dk_at dksX6_some_0 20 rfl rfl)
theorem dX6_some_21 : decode cX6_some 21 = .ok (.invokevirtual 219, 3) := dk_182 0 219 (dk_at dksX6_some_0 21 rfl rfl)
theorem dX6_some_24 : decode cX6_some 24 = .ok (.invokespecial 226, 3) := dk_183 0 226 (dk_at dksX6_some_1 0 rfl rfl)
theorem dX6_some_27 : decode cX6_some 27 = .ok (.astore_n 1, 1) := dk_76 (dk_at dksX6_some_1 3 rfl rfl)
theorem dX6_some_28 : decode cX6_some 28 = .ok (.goto (-23), 3) := dk_167 255 233 (dk_at dksX6_some_1 4 rfl rfl)
theorem dX6_some_31 : decode cX6_some 31 = .ok (.aload_n 1, 1) := dk_43 (dk_at dksX6_some_1 7 rfl rfl)
theorem dX6_some_32 : decode cX6_some 32 = .ok (.areturn, 1) := dk_176 (dk_at dksX6_some_1 8 rfl rfl)
abbrev cX6_all : ByteArray := prog_13_method_21_code
def yX6_all : MethodName := ⟨RX6, "all", "()LFootOut$Fact;"⟩
def dkwX6_all_1 : List UInt8 := [183, 0, 226, 76, 167, 255, 233, 43, 176]
abbrev dktX6_all_1 : List UInt8 := dkwX6_all_1 ++ []
def dkwX6_all_0 : List UInt8 := [42, 182, 0, 229, 76, 42, 18, 232, 182, 0, 100, 153, 0, 20, 187, 0, 224, 89, 4, 43, 42, 182, 0, 229]
abbrev dktX6_all_0 : List UInt8 := dkwX6_all_0 ++ dktX6_all_1
theorem dksX6_all_0 : cX6_all.data.toList.drop 0 = dktX6_all_0 := by decide +kernel
theorem dksX6_all_1 : cX6_all.data.toList.drop 24 = dktX6_all_1 := dk_seg dksX6_all_0 24 rfl rfl
theorem dX6_all_0 : decode cX6_all 0 = .ok (.aload_n 0, 1) := dk_42 (dk_at dksX6_all_0 0 rfl rfl)
theorem dX6_all_1 : decode cX6_all 1 = .ok (.invokevirtual 229, 3) := dk_182 0 229 (dk_at dksX6_all_0 1 rfl rfl)
theorem dX6_all_4 : decode cX6_all 4 = .ok (.astore_n 1, 1) := dk_76 (dk_at dksX6_all_0 4 rfl rfl)
theorem dX6_all_5 : decode cX6_all 5 = .ok (.aload_n 0, 1) := dk_42 (dk_at dksX6_all_0 5 rfl rfl)
theorem dX6_all_6 : decode cX6_all 6 = .ok (.ldc 232, 2) := dk_18 232 (dk_at dksX6_all_0 6 rfl rfl)
theorem dX6_all_8 : decode cX6_all 8 = .ok (.invokevirtual 100, 3) := dk_182 0 100 (dk_at dksX6_all_0 8 rfl rfl)
theorem dX6_all_11 : decode cX6_all 11 = .ok (.ifCond .eq 20, 3) := dk_153 0 20 (dk_at dksX6_all_0 11 rfl rfl)
theorem dX6_all_14 : decode cX6_all 14 = .ok (.new 224, 3) := dk_187 0 224 (dk_at dksX6_all_0 14 rfl rfl)
theorem dX6_all_17 : decode cX6_all 17 = .ok (.dup, 1) := dk_89 (dk_at dksX6_all_0 17 rfl rfl)
theorem dX6_all_18 : decode cX6_all 18 = .ok (.iconst 1, 1) := dk_4 (dk_at dksX6_all_0 18 rfl rfl)
theorem dX6_all_19 : decode cX6_all 19 = .ok (.aload_n 1, 1) := dk_43 (dk_at dksX6_all_0 19 rfl rfl)
theorem dX6_all_20 : decode cX6_all 20 = .ok (.aload_n 0, 1) := dk_42 (dk_at dksX6_all_0 20 rfl rfl)
theorem dX6_all_21 : decode cX6_all 21 = .ok (.invokevirtual 229, 3) := dk_182 0 229 (dk_at dksX6_all_0 21 rfl rfl)
theorem dX6_all_24 : decode cX6_all 24 = .ok (.invokespecial 226, 3) := dk_183 0 226 (dk_at dksX6_all_1 0 rfl rfl)
theorem dX6_all_27 : decode cX6_all 27 = .ok (.astore_n 1, 1) := dk_76 (dk_at dksX6_all_1 3 rfl rfl)
theorem dX6_all_28 : decode cX6_all 28 = .ok (.goto (-23), 3) := dk_167 255 233 (dk_at dksX6_all_1 4 rfl rfl)
theorem dX6_all_31 : decode cX6_all 31 = .ok (.aload_n 1, 1) := dk_43 (dk_at dksX6_all_1 7 rfl rfl)
theorem dX6_all_32 : decode cX6_all 32 = .ok (.areturn, 1) := dk_176 (dk_at dksX6_all_1 8 rfl rfl)
abbrev cX6_fact : ByteArray := prog_13_method_23_code
def yX6_fact : MethodName := ⟨RX6, "fact", "()LFootOut$Fact;"⟩
def dkwX6_fact_9 : List UInt8 := [89, 183, 1, 12, 167, 0, 7, 42, 182, 1, 13, 176]
abbrev dktX6_fact_9 : List UInt8 := dkwX6_fact_9 ++ []
def dkwX6_fact_8 : List UInt8 := [153, 0, 11, 187, 1, 6, 89, 183, 1, 8, 176, 42, 19, 1, 9, 182, 0, 100, 153, 0, 13, 187, 1, 10]
abbrev dktX6_fact_8 : List UInt8 := dkwX6_fact_8 ++ dktX6_fact_9
def dkwX6_fact_7 : List UInt8 := [18, 255, 182, 0, 100, 153, 0, 11, 187, 1, 1, 89, 183, 1, 3, 176, 42, 19, 1, 4, 182, 0, 100]
abbrev dktX6_fact_7 : List UInt8 := dkwX6_fact_7 ++ dktX6_fact_8
def dkwX6_fact_6 : List UInt8 := [27, 183, 0, 249, 176, 42, 18, 250, 182, 0, 100, 153, 0, 11, 187, 0, 252, 89, 183, 0, 254, 176, 42]
abbrev dktX6_fact_6 : List UInt8 := dkwX6_fact_6 ++ dktX6_fact_7
def dkwX6_fact_5 : List UInt8 := [180, 0, 234, 4, 100, 181, 0, 234, 43, 176, 42, 182, 0, 180, 60, 27, 2, 159, 0, 12, 187, 0, 247, 89]
abbrev dktX6_fact_5 : List UInt8 := dkwX6_fact_5 ++ dktX6_fact_6
def dkwX6_fact_4 : List UInt8 := [16, 41, 159, 0, 8, 42, 5, 182, 0, 97, 42, 180, 0, 77, 154, 0, 7, 42, 182, 0, 94, 42, 89]
abbrev dktX6_fact_4 : List UInt8 := dkwX6_fact_4 ++ dktX6_fact_5
def dkwX6_fact_3 : List UInt8 := [154, 0, 10, 42, 182, 0, 210, 167, 0, 4, 1, 76, 42, 180, 0, 77, 154, 0, 17, 42, 180, 0, 64]
abbrev dktX6_fact_3 : List UInt8 := dkwX6_fact_3 ++ dktX6_fact_4
def dkwX6_fact_2 : List UInt8 := [42, 180, 0, 77, 154, 0, 76, 42, 180, 0, 64, 16, 40, 160, 0, 67, 42, 182, 0, 239, 42, 180, 0, 77]
abbrev dktX6_fact_2 : List UInt8 := dkwX6_fact_2 ++ dktX6_fact_3
def dkwX6_fact_1 : List UInt8 := [42, 182, 0, 229, 183, 0, 244, 167, 0, 4, 1, 76, 42, 89, 180, 0, 234, 4, 100, 181, 0, 234, 43, 176]
abbrev dktX6_fact_1 : List UInt8 := dkwX6_fact_1 ++ dktX6_fact_2
def dkwX6_fact_0 : List UInt8 := [42, 18, 237, 182, 0, 90, 153, 0, 42, 42, 182, 0, 239, 42, 180, 0, 77, 154, 0, 17, 187, 0, 242, 89]
abbrev dktX6_fact_0 : List UInt8 := dkwX6_fact_0 ++ dktX6_fact_1
theorem dksX6_fact_0 : cX6_fact.data.toList.drop 0 = dktX6_fact_0 := by decide +kernel
theorem dksX6_fact_1 : cX6_fact.data.toList.drop 24 = dktX6_fact_1 := dk_seg dksX6_fact_0 24 rfl rfl
theorem dksX6_fact_2 : cX6_fact.data.toList.drop 48 = dktX6_fact_2 := dk_seg dksX6_fact_1 24 rfl rfl
theorem dksX6_fact_3 : cX6_fact.data.toList.drop 72 = dktX6_fact_3 := dk_seg dksX6_fact_2 24 rfl rfl
theorem dksX6_fact_4 : cX6_fact.data.toList.drop 95 = dktX6_fact_4 := dk_seg dksX6_fact_3 23 rfl rfl
theorem dksX6_fact_5 : cX6_fact.data.toList.drop 118 = dktX6_fact_5 := dk_seg dksX6_fact_4 23 rfl rfl
theorem dksX6_fact_6 : cX6_fact.data.toList.drop 142 = dktX6_fact_6 := dk_seg dksX6_fact_5 24 rfl rfl
theorem dksX6_fact_7 : cX6_fact.data.toList.drop 165 = dktX6_fact_7 := dk_seg dksX6_fact_6 23 rfl rfl
theorem dksX6_fact_8 : cX6_fact.data.toList.drop 188 = dktX6_fact_8 := dk_seg dksX6_fact_7 23 rfl rfl
theorem dksX6_fact_9 : cX6_fact.data.toList.drop 212 = dktX6_fact_9 := dk_seg dksX6_fact_8 24 rfl rfl
theorem dX6_fact_0 : decode cX6_fact 0 = .ok (.aload_n 0, 1) := dk_42 (dk_at dksX6_fact_0 0 rfl rfl)
theorem dX6_fact_1 : decode cX6_fact 1 = .ok (.ldc 237, 2) := dk_18 237 (dk_at dksX6_fact_0 1 rfl rfl)
theorem dX6_fact_3 : decode cX6_fact 3 = .ok (.invokevirtual 90, 3) := dk_182 0 90 (dk_at dksX6_fact_0 3 rfl rfl)
theorem dX6_fact_6 : decode cX6_fact 6 = .ok (.ifCond .eq 42, 3) := dk_153 0 42 (dk_at dksX6_fact_0 6 rfl rfl)
theorem dX6_fact_9 : decode cX6_fact 9 = .ok (.aload_n 0, 1) := dk_42 (dk_at dksX6_fact_0 9 rfl rfl)
theorem dX6_fact_10 : decode cX6_fact 10 = .ok (.invokevirtual 239, 3) := dk_182 0 239 (dk_at dksX6_fact_0 10 rfl rfl)
theorem dX6_fact_13 : decode cX6_fact 13 = .ok (.aload_n 0, 1) := dk_42 (dk_at dksX6_fact_0 13 rfl rfl)
theorem dX6_fact_14 : decode cX6_fact 14 = .ok (.getfield 77, 3) := dk_180 0 77 (dk_at dksX6_fact_0 14 rfl rfl)
theorem dX6_fact_17 : decode cX6_fact 17 = .ok (.ifCond .ne 17, 3) := dk_154 0 17 (dk_at dksX6_fact_0 17 rfl rfl)
theorem dX6_fact_20 : decode cX6_fact 20 = .ok (.new 242, 3) := dk_187 0 242 (dk_at dksX6_fact_0 20 rfl rfl)
theorem dX6_fact_23 : decode cX6_fact 23 = .ok (.dup, 1) := dk_89 (dk_at dksX6_fact_0 23 rfl rfl)
theorem dX6_fact_24 : decode cX6_fact 24 = .ok (.aload_n 0, 1) := dk_42 (dk_at dksX6_fact_1 0 rfl rfl)
theorem dX6_fact_25 : decode cX6_fact 25 = .ok (.invokevirtual 229, 3) := dk_182 0 229 (dk_at dksX6_fact_1 1 rfl rfl)
theorem dX6_fact_28 : decode cX6_fact 28 = .ok (.invokespecial 244, 3) := dk_183 0 244 (dk_at dksX6_fact_1 4 rfl rfl)
theorem dX6_fact_31 : decode cX6_fact 31 = .ok (.goto 4, 3) := dk_167 0 4 (dk_at dksX6_fact_1 7 rfl rfl)
theorem dX6_fact_34 : decode cX6_fact 34 = .ok (.aconst_null, 1) := dk_1 (dk_at dksX6_fact_1 10 rfl rfl)
theorem dX6_fact_35 : decode cX6_fact 35 = .ok (.astore_n 1, 1) := dk_76 (dk_at dksX6_fact_1 11 rfl rfl)
theorem dX6_fact_36 : decode cX6_fact 36 = .ok (.aload_n 0, 1) := dk_42 (dk_at dksX6_fact_1 12 rfl rfl)
theorem dX6_fact_37 : decode cX6_fact 37 = .ok (.dup, 1) := dk_89 (dk_at dksX6_fact_1 13 rfl rfl)
theorem dX6_fact_38 : decode cX6_fact 38 = .ok (.getfield 234, 3) := dk_180 0 234 (dk_at dksX6_fact_1 14 rfl rfl)
theorem dX6_fact_41 : decode cX6_fact 41 = .ok (.iconst 1, 1) := dk_4 (dk_at dksX6_fact_1 17 rfl rfl)
theorem dX6_fact_42 : decode cX6_fact 42 = .ok (.isub, 1) := dk_100 (dk_at dksX6_fact_1 18 rfl rfl)
theorem dX6_fact_43 : decode cX6_fact 43 = .ok (.putfield 234, 3) := dk_181 0 234 (dk_at dksX6_fact_1 19 rfl rfl)
theorem dX6_fact_46 : decode cX6_fact 46 = .ok (.aload_n 1, 1) := dk_43 (dk_at dksX6_fact_1 22 rfl rfl)
theorem dX6_fact_47 : decode cX6_fact 47 = .ok (.areturn, 1) := dk_176 (dk_at dksX6_fact_1 23 rfl rfl)
theorem dX6_fact_48 : decode cX6_fact 48 = .ok (.aload_n 0, 1) := dk_42 (dk_at dksX6_fact_2 0 rfl rfl)
theorem dX6_fact_49 : decode cX6_fact 49 = .ok (.getfield 77, 3) := dk_180 0 77 (dk_at dksX6_fact_2 1 rfl rfl)
theorem dX6_fact_52 : decode cX6_fact 52 = .ok (.ifCond .ne 76, 3) := dk_154 0 76 (dk_at dksX6_fact_2 4 rfl rfl)
theorem dX6_fact_55 : decode cX6_fact 55 = .ok (.aload_n 0, 1) := dk_42 (dk_at dksX6_fact_2 7 rfl rfl)
theorem dX6_fact_56 : decode cX6_fact 56 = .ok (.getfield 64, 3) := dk_180 0 64 (dk_at dksX6_fact_2 8 rfl rfl)
theorem dX6_fact_59 : decode cX6_fact 59 = .ok (.bipush 40, 2) := dk_16 40 (dk_at dksX6_fact_2 11 rfl rfl)
theorem dX6_fact_61 : decode cX6_fact 61 = .ok (.if_icmp .ne 67, 3) := dk_160 0 67 (dk_at dksX6_fact_2 13 rfl rfl)
theorem dX6_fact_64 : decode cX6_fact 64 = .ok (.aload_n 0, 1) := dk_42 (dk_at dksX6_fact_2 16 rfl rfl)
theorem dX6_fact_65 : decode cX6_fact 65 = .ok (.invokevirtual 239, 3) := dk_182 0 239 (dk_at dksX6_fact_2 17 rfl rfl)
theorem dX6_fact_68 : decode cX6_fact 68 = .ok (.aload_n 0, 1) := dk_42 (dk_at dksX6_fact_2 20 rfl rfl)
theorem dX6_fact_69 : decode cX6_fact 69 = .ok (.getfield 77, 3) := dk_180 0 77 (dk_at dksX6_fact_2 21 rfl rfl)
theorem dX6_fact_72 : decode cX6_fact 72 = .ok (.ifCond .ne 10, 3) := dk_154 0 10 (dk_at dksX6_fact_3 0 rfl rfl)
theorem dX6_fact_75 : decode cX6_fact 75 = .ok (.aload_n 0, 1) := dk_42 (dk_at dksX6_fact_3 3 rfl rfl)
theorem dX6_fact_76 : decode cX6_fact 76 = .ok (.invokevirtual 210, 3) := dk_182 0 210 (dk_at dksX6_fact_3 4 rfl rfl)
theorem dX6_fact_79 : decode cX6_fact 79 = .ok (.goto 4, 3) := dk_167 0 4 (dk_at dksX6_fact_3 7 rfl rfl)
theorem dX6_fact_82 : decode cX6_fact 82 = .ok (.aconst_null, 1) := dk_1 (dk_at dksX6_fact_3 10 rfl rfl)
theorem dX6_fact_83 : decode cX6_fact 83 = .ok (.astore_n 1, 1) := dk_76 (dk_at dksX6_fact_3 11 rfl rfl)
theorem dX6_fact_84 : decode cX6_fact 84 = .ok (.aload_n 0, 1) := dk_42 (dk_at dksX6_fact_3 12 rfl rfl)
theorem dX6_fact_85 : decode cX6_fact 85 = .ok (.getfield 77, 3) := dk_180 0 77 (dk_at dksX6_fact_3 13 rfl rfl)
theorem dX6_fact_88 : decode cX6_fact 88 = .ok (.ifCond .ne 17, 3) := dk_154 0 17 (dk_at dksX6_fact_3 16 rfl rfl)
theorem dX6_fact_91 : decode cX6_fact 91 = .ok (.aload_n 0, 1) := dk_42 (dk_at dksX6_fact_3 19 rfl rfl)
theorem dX6_fact_92 : decode cX6_fact 92 = .ok (.getfield 64, 3) := dk_180 0 64 (dk_at dksX6_fact_3 20 rfl rfl)
theorem dX6_fact_95 : decode cX6_fact 95 = .ok (.bipush 41, 2) := dk_16 41 (dk_at dksX6_fact_4 0 rfl rfl)
theorem dX6_fact_97 : decode cX6_fact 97 = .ok (.if_icmp .eq 8, 3) := dk_159 0 8 (dk_at dksX6_fact_4 2 rfl rfl)
theorem dX6_fact_100 : decode cX6_fact 100 = .ok (.aload_n 0, 1) := dk_42 (dk_at dksX6_fact_4 5 rfl rfl)
theorem dX6_fact_101 : decode cX6_fact 101 = .ok (.iconst 2, 1) := dk_5 (dk_at dksX6_fact_4 6 rfl rfl)
theorem dX6_fact_102 : decode cX6_fact 102 = .ok (.invokevirtual 97, 3) := dk_182 0 97 (dk_at dksX6_fact_4 7 rfl rfl)
theorem dX6_fact_105 : decode cX6_fact 105 = .ok (.aload_n 0, 1) := dk_42 (dk_at dksX6_fact_4 10 rfl rfl)
theorem dX6_fact_106 : decode cX6_fact 106 = .ok (.getfield 77, 3) := dk_180 0 77 (dk_at dksX6_fact_4 11 rfl rfl)
theorem dX6_fact_109 : decode cX6_fact 109 = .ok (.ifCond .ne 7, 3) := dk_154 0 7 (dk_at dksX6_fact_4 14 rfl rfl)
theorem dX6_fact_112 : decode cX6_fact 112 = .ok (.aload_n 0, 1) := dk_42 (dk_at dksX6_fact_4 17 rfl rfl)
theorem dX6_fact_113 : decode cX6_fact 113 = .ok (.invokevirtual 94, 3) := dk_182 0 94 (dk_at dksX6_fact_4 18 rfl rfl)
theorem dX6_fact_116 : decode cX6_fact 116 = .ok (.aload_n 0, 1) := dk_42 (dk_at dksX6_fact_4 21 rfl rfl)
theorem dX6_fact_117 : decode cX6_fact 117 = .ok (.dup, 1) := dk_89 (dk_at dksX6_fact_4 22 rfl rfl)
theorem dX6_fact_118 : decode cX6_fact 118 = .ok (.getfield 234, 3) := dk_180 0 234 (dk_at dksX6_fact_5 0 rfl rfl)
theorem dX6_fact_121 : decode cX6_fact 121 = .ok (.iconst 1, 1) := dk_4 (dk_at dksX6_fact_5 3 rfl rfl)
theorem dX6_fact_122 : decode cX6_fact 122 = .ok (.isub, 1) := dk_100 (dk_at dksX6_fact_5 4 rfl rfl)
theorem dX6_fact_123 : decode cX6_fact 123 = .ok (.putfield 234, 3) := dk_181 0 234 (dk_at dksX6_fact_5 5 rfl rfl)
theorem dX6_fact_126 : decode cX6_fact 126 = .ok (.aload_n 1, 1) := dk_43 (dk_at dksX6_fact_5 8 rfl rfl)
theorem dX6_fact_127 : decode cX6_fact 127 = .ok (.areturn, 1) := dk_176 (dk_at dksX6_fact_5 9 rfl rfl)
theorem dX6_fact_128 : decode cX6_fact 128 = .ok (.aload_n 0, 1) := dk_42 (dk_at dksX6_fact_5 10 rfl rfl)
theorem dX6_fact_129 : decode cX6_fact 129 = .ok (.invokevirtual 180, 3) := dk_182 0 180 (dk_at dksX6_fact_5 11 rfl rfl)
theorem dX6_fact_132 : decode cX6_fact 132 = .ok (.istore_n 1, 1) := dk_60 (dk_at dksX6_fact_5 14 rfl rfl)
theorem dX6_fact_133 : decode cX6_fact 133 = .ok (.iload_n 1, 1) := dk_27 (dk_at dksX6_fact_5 15 rfl rfl)
theorem dX6_fact_134 : decode cX6_fact 134 = .ok (.iconst (-1), 1) := dk_2 (dk_at dksX6_fact_5 16 rfl rfl)
theorem dX6_fact_135 : decode cX6_fact 135 = .ok (.if_icmp .eq 12, 3) := dk_159 0 12 (dk_at dksX6_fact_5 17 rfl rfl)
theorem dX6_fact_138 : decode cX6_fact 138 = .ok (.new 247, 3) := dk_187 0 247 (dk_at dksX6_fact_5 20 rfl rfl)
theorem dX6_fact_141 : decode cX6_fact 141 = .ok (.dup, 1) := dk_89 (dk_at dksX6_fact_5 23 rfl rfl)
theorem dX6_fact_142 : decode cX6_fact 142 = .ok (.iload_n 1, 1) := dk_27 (dk_at dksX6_fact_6 0 rfl rfl)
theorem dX6_fact_143 : decode cX6_fact 143 = .ok (.invokespecial 249, 3) := dk_183 0 249 (dk_at dksX6_fact_6 1 rfl rfl)
theorem dX6_fact_146 : decode cX6_fact 146 = .ok (.areturn, 1) := dk_176 (dk_at dksX6_fact_6 4 rfl rfl)
theorem dX6_fact_147 : decode cX6_fact 147 = .ok (.aload_n 0, 1) := dk_42 (dk_at dksX6_fact_6 5 rfl rfl)
theorem dX6_fact_148 : decode cX6_fact 148 = .ok (.ldc 250, 2) := dk_18 250 (dk_at dksX6_fact_6 6 rfl rfl)
theorem dX6_fact_150 : decode cX6_fact 150 = .ok (.invokevirtual 100, 3) := dk_182 0 100 (dk_at dksX6_fact_6 8 rfl rfl)
theorem dX6_fact_153 : decode cX6_fact 153 = .ok (.ifCond .eq 11, 3) := dk_153 0 11 (dk_at dksX6_fact_6 11 rfl rfl)
theorem dX6_fact_156 : decode cX6_fact 156 = .ok (.new 252, 3) := dk_187 0 252 (dk_at dksX6_fact_6 14 rfl rfl)
theorem dX6_fact_159 : decode cX6_fact 159 = .ok (.dup, 1) := dk_89 (dk_at dksX6_fact_6 17 rfl rfl)
theorem dX6_fact_160 : decode cX6_fact 160 = .ok (.invokespecial 254, 3) := dk_183 0 254 (dk_at dksX6_fact_6 18 rfl rfl)
theorem dX6_fact_163 : decode cX6_fact 163 = .ok (.areturn, 1) := dk_176 (dk_at dksX6_fact_6 21 rfl rfl)
theorem dX6_fact_164 : decode cX6_fact 164 = .ok (.aload_n 0, 1) := dk_42 (dk_at dksX6_fact_6 22 rfl rfl)
theorem dX6_fact_165 : decode cX6_fact 165 = .ok (.ldc 255, 2) := dk_18 255 (dk_at dksX6_fact_7 0 rfl rfl)
theorem dX6_fact_167 : decode cX6_fact 167 = .ok (.invokevirtual 100, 3) := dk_182 0 100 (dk_at dksX6_fact_7 2 rfl rfl)
theorem dX6_fact_170 : decode cX6_fact 170 = .ok (.ifCond .eq 11, 3) := dk_153 0 11 (dk_at dksX6_fact_7 5 rfl rfl)
theorem dX6_fact_173 : decode cX6_fact 173 = .ok (.new 257, 3) := dk_187 1 1 (dk_at dksX6_fact_7 8 rfl rfl)
theorem dX6_fact_176 : decode cX6_fact 176 = .ok (.dup, 1) := dk_89 (dk_at dksX6_fact_7 11 rfl rfl)
theorem dX6_fact_177 : decode cX6_fact 177 = .ok (.invokespecial 259, 3) := dk_183 1 3 (dk_at dksX6_fact_7 12 rfl rfl)
theorem dX6_fact_180 : decode cX6_fact 180 = .ok (.areturn, 1) := dk_176 (dk_at dksX6_fact_7 15 rfl rfl)
theorem dX6_fact_181 : decode cX6_fact 181 = .ok (.aload_n 0, 1) := dk_42 (dk_at dksX6_fact_7 16 rfl rfl)
theorem dX6_fact_182 : decode cX6_fact 182 = .ok (.ldc_w 260, 3) := dk_19 1 4 (dk_at dksX6_fact_7 17 rfl rfl)
theorem dX6_fact_185 : decode cX6_fact 185 = .ok (.invokevirtual 100, 3) := dk_182 0 100 (dk_at dksX6_fact_7 20 rfl rfl)
theorem dX6_fact_188 : decode cX6_fact 188 = .ok (.ifCond .eq 11, 3) := dk_153 0 11 (dk_at dksX6_fact_8 0 rfl rfl)
theorem dX6_fact_191 : decode cX6_fact 191 = .ok (.new 262, 3) := dk_187 1 6 (dk_at dksX6_fact_8 3 rfl rfl)
theorem dX6_fact_194 : decode cX6_fact 194 = .ok (.dup, 1) := dk_89 (dk_at dksX6_fact_8 6 rfl rfl)
theorem dX6_fact_195 : decode cX6_fact 195 = .ok (.invokespecial 264, 3) := dk_183 1 8 (dk_at dksX6_fact_8 7 rfl rfl)
theorem dX6_fact_198 : decode cX6_fact 198 = .ok (.areturn, 1) := dk_176 (dk_at dksX6_fact_8 10 rfl rfl)
theorem dX6_fact_199 : decode cX6_fact 199 = .ok (.aload_n 0, 1) := dk_42 (dk_at dksX6_fact_8 11 rfl rfl)
theorem dX6_fact_200 : decode cX6_fact 200 = .ok (.ldc_w 265, 3) := dk_19 1 9 (dk_at dksX6_fact_8 12 rfl rfl)
theorem dX6_fact_203 : decode cX6_fact 203 = .ok (.invokevirtual 100, 3) := dk_182 0 100 (dk_at dksX6_fact_8 15 rfl rfl)
theorem dX6_fact_206 : decode cX6_fact 206 = .ok (.ifCond .eq 13, 3) := dk_153 0 13 (dk_at dksX6_fact_8 18 rfl rfl)
theorem dX6_fact_209 : decode cX6_fact 209 = .ok (.new 266, 3) := dk_187 1 10 (dk_at dksX6_fact_8 21 rfl rfl)
theorem dX6_fact_212 : decode cX6_fact 212 = .ok (.dup, 1) := dk_89 (dk_at dksX6_fact_9 0 rfl rfl)
theorem dX6_fact_213 : decode cX6_fact 213 = .ok (.invokespecial 268, 3) := dk_183 1 12 (dk_at dksX6_fact_9 1 rfl rfl)
theorem dX6_fact_216 : decode cX6_fact 216 = .ok (.goto 7, 3) := dk_167 0 7 (dk_at dksX6_fact_9 4 rfl rfl)
theorem dX6_fact_219 : decode cX6_fact 219 = .ok (.aload_n 0, 1) := dk_42 (dk_at dksX6_fact_9 7 rfl rfl)
theorem dX6_fact_220 : decode cX6_fact 220 = .ok (.invokevirtual 269, 3) := dk_182 1 13 (dk_at dksX6_fact_9 8 rfl rfl)
theorem dX6_fact_223 : decode cX6_fact 223 = .ok (.areturn, 1) := dk_176 (dk_at dksX6_fact_9 11 rfl rfl)
abbrev cX6_opens : ByteArray := prog_13_method_22_code
def yX6_opens : MethodName := ⟨RX6, "opens", "()V"⟩
def dkwX6_opens_1 : List UInt8 := [42, 180, 0, 77, 154, 0, 7, 42, 182, 0, 94, 177]
abbrev dktX6_opens_1 : List UInt8 := dkwX6_opens_1 ++ []
def dkwX6_opens_0 : List UInt8 := [42, 180, 0, 234, 16, 8, 160, 0, 8, 42, 8, 182, 0, 97, 42, 89, 180, 0, 234, 4, 96, 181, 0, 234]
abbrev dktX6_opens_0 : List UInt8 := dkwX6_opens_0 ++ dktX6_opens_1
theorem dksX6_opens_0 : cX6_opens.data.toList.drop 0 = dktX6_opens_0 := by decide +kernel
theorem dksX6_opens_1 : cX6_opens.data.toList.drop 24 = dktX6_opens_1 := dk_seg dksX6_opens_0 24 rfl rfl
theorem dX6_opens_0 : decode cX6_opens 0 = .ok (.aload_n 0, 1) := dk_42 (dk_at dksX6_opens_0 0 rfl rfl)
theorem dX6_opens_1 : decode cX6_opens 1 = .ok (.getfield 234, 3) := dk_180 0 234 (dk_at dksX6_opens_0 1 rfl rfl)
theorem dX6_opens_4 : decode cX6_opens 4 = .ok (.bipush 8, 2) := dk_16 8 (dk_at dksX6_opens_0 4 rfl rfl)
theorem dX6_opens_6 : decode cX6_opens 6 = .ok (.if_icmp .ne 8, 3) := dk_160 0 8 (dk_at dksX6_opens_0 6 rfl rfl)
theorem dX6_opens_9 : decode cX6_opens 9 = .ok (.aload_n 0, 1) := dk_42 (dk_at dksX6_opens_0 9 rfl rfl)
theorem dX6_opens_10 : decode cX6_opens 10 = .ok (.iconst 5, 1) := dk_8 (dk_at dksX6_opens_0 10 rfl rfl)
theorem dX6_opens_11 : decode cX6_opens 11 = .ok (.invokevirtual 97, 3) := dk_182 0 97 (dk_at dksX6_opens_0 11 rfl rfl)
theorem dX6_opens_14 : decode cX6_opens 14 = .ok (.aload_n 0, 1) := dk_42 (dk_at dksX6_opens_0 14 rfl rfl)
theorem dX6_opens_15 : decode cX6_opens 15 = .ok (.dup, 1) := dk_89 (dk_at dksX6_opens_0 15 rfl rfl)
theorem dX6_opens_16 : decode cX6_opens 16 = .ok (.getfield 234, 3) := dk_180 0 234 (dk_at dksX6_opens_0 16 rfl rfl)
theorem dX6_opens_19 : decode cX6_opens 19 = .ok (.iconst 1, 1) := dk_4 (dk_at dksX6_opens_0 19 rfl rfl)
theorem dX6_opens_20 : decode cX6_opens 20 = .ok (.iadd, 1) := dk_96 (dk_at dksX6_opens_0 20 rfl rfl)
theorem dX6_opens_21 : decode cX6_opens 21 = .ok (.putfield 234, 3) := dk_181 0 234 (dk_at dksX6_opens_0 21 rfl rfl)
theorem dX6_opens_24 : decode cX6_opens 24 = .ok (.aload_n 0, 1) := dk_42 (dk_at dksX6_opens_1 0 rfl rfl)
theorem dX6_opens_25 : decode cX6_opens 25 = .ok (.getfield 77, 3) := dk_180 0 77 (dk_at dksX6_opens_1 1 rfl rfl)
theorem dX6_opens_28 : decode cX6_opens 28 = .ok (.ifCond .ne 7, 3) := dk_154 0 7 (dk_at dksX6_opens_1 4 rfl rfl)
theorem dX6_opens_31 : decode cX6_opens 31 = .ok (.aload_n 0, 1) := dk_42 (dk_at dksX6_opens_1 7 rfl rfl)
theorem dX6_opens_32 : decode cX6_opens 32 = .ok (.invokevirtual 94, 3) := dk_182 0 94 (dk_at dksX6_opens_1 8 rfl rfl)
theorem dX6_opens_35 : decode cX6_opens 35 = .ok (.return_, 1) := dk_177 (dk_at dksX6_opens_1 11 rfl rfl)
abbrev cX6_own : ByteArray := prog_13_method_24_code
def yX6_own : MethodName := ⟨RX6, "own", "()LFootOut$Fact;"⟩
def dkwX6_own_3 : List UInt8 := [42, 3, 17, 3, 231, 182, 0, 103, 183, 1, 23, 176]
abbrev dktX6_own_3 : List UInt8 := dkwX6_own_3 ++ []
def dkwX6_own_2 : List UInt8 := [153, 0, 7, 6, 167, 0, 4, 2, 60, 27, 2, 160, 0, 8, 42, 5, 182, 0, 97, 187, 1, 21, 89, 27]
abbrev dktX6_own_2 : List UInt8 := dkwX6_own_2 ++ dktX6_own_3
def dkwX6_own_1 : List UInt8 := [4, 167, 0, 31, 42, 19, 1, 20, 182, 0, 100, 153, 0, 7, 5, 167, 0, 17, 42, 18, 197, 182, 0, 100]
abbrev dktX6_own_1 : List UInt8 := dkwX6_own_1 ++ dktX6_own_2
def dkwX6_own_0 : List UInt8 := [42, 19, 1, 16, 182, 0, 100, 153, 0, 7, 3, 167, 0, 45, 42, 19, 1, 18, 182, 0, 100, 153, 0, 7]
abbrev dktX6_own_0 : List UInt8 := dkwX6_own_0 ++ dktX6_own_1
theorem dksX6_own_0 : cX6_own.data.toList.drop 0 = dktX6_own_0 := by decide +kernel
theorem dksX6_own_1 : cX6_own.data.toList.drop 24 = dktX6_own_1 := dk_seg dksX6_own_0 24 rfl rfl
theorem dksX6_own_2 : cX6_own.data.toList.drop 48 = dktX6_own_2 := dk_seg dksX6_own_1 24 rfl rfl
theorem dksX6_own_3 : cX6_own.data.toList.drop 72 = dktX6_own_3 := dk_seg dksX6_own_2 24 rfl rfl
theorem dX6_own_0 : decode cX6_own 0 = .ok (.aload_n 0, 1) := dk_42 (dk_at dksX6_own_0 0 rfl rfl)
theorem dX6_own_1 : decode cX6_own 1 = .ok (.ldc_w 272, 3) := dk_19 1 16 (dk_at dksX6_own_0 1 rfl rfl)
theorem dX6_own_4 : decode cX6_own 4 = .ok (.invokevirtual 100, 3) := dk_182 0 100 (dk_at dksX6_own_0 4 rfl rfl)
theorem dX6_own_7 : decode cX6_own 7 = .ok (.ifCond .eq 7, 3) := dk_153 0 7 (dk_at dksX6_own_0 7 rfl rfl)
theorem dX6_own_10 : decode cX6_own 10 = .ok (.iconst 0, 1) := dk_3 (dk_at dksX6_own_0 10 rfl rfl)
theorem dX6_own_11 : decode cX6_own 11 = .ok (.goto 45, 3) := dk_167 0 45 (dk_at dksX6_own_0 11 rfl rfl)
theorem dX6_own_14 : decode cX6_own 14 = .ok (.aload_n 0, 1) := dk_42 (dk_at dksX6_own_0 14 rfl rfl)
theorem dX6_own_15 : decode cX6_own 15 = .ok (.ldc_w 274, 3) := dk_19 1 18 (dk_at dksX6_own_0 15 rfl rfl)
theorem dX6_own_18 : decode cX6_own 18 = .ok (.invokevirtual 100, 3) := dk_182 0 100 (dk_at dksX6_own_0 18 rfl rfl)
theorem dX6_own_21 : decode cX6_own 21 = .ok (.ifCond .eq 7, 3) := dk_153 0 7 (dk_at dksX6_own_0 21 rfl rfl)
theorem dX6_own_24 : decode cX6_own 24 = .ok (.iconst 1, 1) := dk_4 (dk_at dksX6_own_1 0 rfl rfl)
theorem dX6_own_25 : decode cX6_own 25 = .ok (.goto 31, 3) := dk_167 0 31 (dk_at dksX6_own_1 1 rfl rfl)
theorem dX6_own_28 : decode cX6_own 28 = .ok (.aload_n 0, 1) := dk_42 (dk_at dksX6_own_1 4 rfl rfl)
theorem dX6_own_29 : decode cX6_own 29 = .ok (.ldc_w 276, 3) := dk_19 1 20 (dk_at dksX6_own_1 5 rfl rfl)
theorem dX6_own_32 : decode cX6_own 32 = .ok (.invokevirtual 100, 3) := dk_182 0 100 (dk_at dksX6_own_1 8 rfl rfl)
theorem dX6_own_35 : decode cX6_own 35 = .ok (.ifCond .eq 7, 3) := dk_153 0 7 (dk_at dksX6_own_1 11 rfl rfl)
theorem dX6_own_38 : decode cX6_own 38 = .ok (.iconst 2, 1) := dk_5 (dk_at dksX6_own_1 14 rfl rfl)
theorem dX6_own_39 : decode cX6_own 39 = .ok (.goto 17, 3) := dk_167 0 17 (dk_at dksX6_own_1 15 rfl rfl)
theorem dX6_own_42 : decode cX6_own 42 = .ok (.aload_n 0, 1) := dk_42 (dk_at dksX6_own_1 18 rfl rfl)
theorem dX6_own_43 : decode cX6_own 43 = .ok (.ldc 197, 2) := dk_18 197 (dk_at dksX6_own_1 19 rfl rfl)
theorem dX6_own_45 : decode cX6_own 45 = .ok (.invokevirtual 100, 3) := dk_182 0 100 (dk_at dksX6_own_1 21 rfl rfl)
theorem dX6_own_48 : decode cX6_own 48 = .ok (.ifCond .eq 7, 3) := dk_153 0 7 (dk_at dksX6_own_2 0 rfl rfl)
theorem dX6_own_51 : decode cX6_own 51 = .ok (.iconst 3, 1) := dk_6 (dk_at dksX6_own_2 3 rfl rfl)
theorem dX6_own_52 : decode cX6_own 52 = .ok (.goto 4, 3) := dk_167 0 4 (dk_at dksX6_own_2 4 rfl rfl)
theorem dX6_own_55 : decode cX6_own 55 = .ok (.iconst (-1), 1) := dk_2 (dk_at dksX6_own_2 7 rfl rfl)
theorem dX6_own_56 : decode cX6_own 56 = .ok (.istore_n 1, 1) := dk_60 (dk_at dksX6_own_2 8 rfl rfl)
theorem dX6_own_57 : decode cX6_own 57 = .ok (.iload_n 1, 1) := dk_27 (dk_at dksX6_own_2 9 rfl rfl)
theorem dX6_own_58 : decode cX6_own 58 = .ok (.iconst (-1), 1) := dk_2 (dk_at dksX6_own_2 10 rfl rfl)
theorem dX6_own_59 : decode cX6_own 59 = .ok (.if_icmp .ne 8, 3) := dk_160 0 8 (dk_at dksX6_own_2 11 rfl rfl)
theorem dX6_own_62 : decode cX6_own 62 = .ok (.aload_n 0, 1) := dk_42 (dk_at dksX6_own_2 14 rfl rfl)
theorem dX6_own_63 : decode cX6_own 63 = .ok (.iconst 2, 1) := dk_5 (dk_at dksX6_own_2 15 rfl rfl)
theorem dX6_own_64 : decode cX6_own 64 = .ok (.invokevirtual 97, 3) := dk_182 0 97 (dk_at dksX6_own_2 16 rfl rfl)
theorem dX6_own_67 : decode cX6_own 67 = .ok (.new 277, 3) := dk_187 1 21 (dk_at dksX6_own_2 19 rfl rfl)
theorem dX6_own_70 : decode cX6_own 70 = .ok (.dup, 1) := dk_89 (dk_at dksX6_own_2 22 rfl rfl)
theorem dX6_own_71 : decode cX6_own 71 = .ok (.iload_n 1, 1) := dk_27 (dk_at dksX6_own_2 23 rfl rfl)
theorem dX6_own_72 : decode cX6_own 72 = .ok (.aload_n 0, 1) := dk_42 (dk_at dksX6_own_3 0 rfl rfl)
theorem dX6_own_73 : decode cX6_own 73 = .ok (.iconst 0, 1) := dk_3 (dk_at dksX6_own_3 1 rfl rfl)
theorem dX6_own_74 : decode cX6_own 74 = .ok (.sipush 999, 3) := dk_17 3 231 (dk_at dksX6_own_3 2 rfl rfl)
theorem dX6_own_77 : decode cX6_own 77 = .ok (.invokevirtual 103, 3) := dk_182 0 103 (dk_at dksX6_own_3 5 rfl rfl)
theorem dX6_own_80 : decode cX6_own 80 = .ok (.invokespecial 279, 3) := dk_183 1 23 (dk_at dksX6_own_3 8 rfl rfl)
theorem dX6_own_83 : decode cX6_own 83 = .ok (.areturn, 1) := dk_176 (dk_at dksX6_own_3 11 rfl rfl)
theorem q133 : (Jvm.Cond.initialized "FootOut$Reader") ∈ lw_all := lw_g (lw_at lw_m1 10 rfl) rfl
theorem q215 : (Jvm.Cond.fieldLinkNest "FootOut$Reader" (132 : Nat) "FootOut$Scene" "cars" "Ljava/util/ArrayList;" "FootOut") ∈ lw_tbl := lw_at lw_m1 92 rfl
theorem q218 : (Jvm.Cond.fieldLinkNest "FootOut$Reader" (160 : Nat) "FootOut$Scene" "lanes" "I" "FootOut") ∈ lw_tbl := lw_at lw_m1 95 rfl
theorem q224 : (Jvm.Cond.fieldLinkNest "FootOut$Reader" (183 : Nat) "FootOut$Scene" "traits" "I" "FootOut") ∈ lw_tbl := lw_at lw_m1 101 rfl
theorem q227 : (Jvm.Cond.fieldLinkNest "FootOut$Reader" (163 : Nat) "FootOut$Scene" "line" "I" "FootOut") ∈ lw_tbl := lw_at lw_m1 104 rfl
theorem q231 : (Jvm.Cond.fieldLinkNest "FootOut$Reader" (167 : Nat) "FootOut$Scene" "gap" "I" "FootOut") ∈ lw_tbl := lw_at lw_m1 108 rfl
theorem q234 : (Jvm.Cond.fieldLinkNest "FootOut$Reader" (171 : Nat) "FootOut$Scene" "waits" "I" "FootOut") ∈ lw_tbl := lw_at lw_m1 111 rfl
theorem q237 : (Jvm.Cond.fieldLinkNest "FootOut$Reader" (175 : Nat) "FootOut$Scene" "sight" "I" "FootOut") ∈ lw_tbl := lw_at lw_m1 114 rfl
theorem q240 : (Jvm.Cond.fieldLinkNest "FootOut$Reader" (129 : Nat) "FootOut$Scene" "lines" "I" "FootOut") ∈ lw_tbl := lw_at lw_m1 117 rfl
theorem q377 : (Jvm.Cond.fieldLinkNest "FootOut$Reader" (38 : Nat) "FootOut" "tape" "[B" "FootOut") ∈ lw_tbl := lw_at lw_m2 14 rfl
theorem q450 : (Jvm.Cond.instantiable "FootOut$Reader" (11 : Nat)) ∈ lw_all := lw_g (lw_at lw_m2 87 rfl) rfl
theorem q452 : (Jvm.Cond.instanceMethod ({ cls := "FootOut$Reader", name := "<init>", desc := "(LFootOut;I)V" } : Jvm.MethodName)) ∈ lw_all := lw_g (lw_at lw_m2 89 rfl) rfl
theorem q453 : (Jvm.Cond.code ({ cls := "FootOut$Reader", name := "<init>", desc := "(LFootOut;I)V" } : Jvm.MethodName) prog_13_method_1_code (3 : Nat) (Option.none : Option Jvm.ClassFile.FieldType)) ∈ lw_all := lw_g (lw_at lw_m2 90 rfl) rfl
theorem q454 : (Jvm.Cond.methodLink "FootOut$Reader" (9 : Nat) ({ cls := "java/lang/Object", name := "<init>", desc := "()V" } : Jvm.MethodName)) ∈ lw_all := lw_g (lw_at lw_m2 91 rfl) rfl
theorem q455 : (Jvm.Cond.classLink "FootOut$Reader" (15 : Nat) "FootOut$Scene") ∈ lw_all := lw_g (lw_at lw_m2 92 rfl) rfl
theorem q456 : (Jvm.Cond.methodLinkNest "FootOut$Reader" (17 : Nat) ({ cls := "FootOut$Scene", name := "<init>", desc := "()V" } : Jvm.MethodName) "FootOut") ∈ lw_tbl := lw_at lw_m2 93 rfl
theorem q457 : (Jvm.Cond.classLink "FootOut$Reader" (22 : Nat) "java/util/ArrayList") ∈ lw_all := lw_g (lw_at lw_m2 94 rfl) rfl
theorem q458 : (Jvm.Cond.methodLink "FootOut$Reader" (24 : Nat) ({ cls := "java/util/ArrayList", name := "<init>", desc := "(I)V" } : Jvm.MethodName)) ∈ lw_all := lw_g (lw_at lw_m2 95 rfl) rfl
theorem q459 : (Jvm.Cond.fieldLink "FootOut$Reader" (35 : Nat) "FootOut$Reader" "size" "I") ∈ lw_all := lw_g (lw_at lw_m2 96 rfl) rfl
theorem q460 : (Jvm.Cond.fieldLink "FootOut$Reader" (18 : Nat) "FootOut$Reader" "scene" "LFootOut$Scene;") ∈ lw_all := lw_g (lw_at lw_m2 97 rfl) rfl
theorem q462 : (Jvm.Cond.fieldLink "FootOut$Reader" (27 : Nat) "FootOut$Reader" "law" "Ljava/util/ArrayList;") ∈ lw_all := lw_g (lw_at lw_m2 99 rfl) rfl
theorem q464 : (Jvm.Cond.fieldLink "FootOut$Reader" (58 : Nat) "FootOut$Reader" "at" "I") ∈ lw_all := lw_g (lw_at lw_m2 101 rfl) rfl
theorem q465 : (Jvm.Cond.fieldLink "FootOut$Reader" (61 : Nat) "FootOut$Reader" "begin" "I") ∈ lw_all := lw_g (lw_at lw_m2 102 rfl) rfl
theorem q466 : (Jvm.Cond.fieldLink "FootOut$Reader" (64 : Nat) "FootOut$Reader" "token" "I") ∈ lw_all := lw_g (lw_at lw_m2 103 rfl) rfl
theorem q467 : (Jvm.Cond.fieldLink "FootOut$Reader" (74 : Nat) "FootOut$Reader" "value" "I") ∈ lw_all := lw_g (lw_at lw_m2 104 rfl) rfl
theorem q468 : (Jvm.Cond.fieldLink "FootOut$Reader" (234 : Nat) "FootOut$Reader" "open" "I") ∈ lw_all := lw_g (lw_at lw_m2 105 rfl) rfl
theorem q469 : (Jvm.Cond.fieldLink "FootOut$Reader" (77 : Nat) "FootOut$Reader" "fault" "I") ∈ lw_all := lw_g (lw_at lw_m2 106 rfl) rfl
theorem q471 : (Jvm.Cond.fieldLink "FootOut$Reader" (31 : Nat) "FootOut$Reader" "place" "I") ∈ lw_all := lw_g (lw_at lw_m2 108 rfl) rfl
theorem q473 : (Jvm.Cond.fieldLink "FootOut$Reader" (3 : Nat) "FootOut$Reader" "this$0" "LFootOut;") ∈ lw_all := lw_g (lw_at lw_m2 110 rfl) rfl
theorem q474 : (Jvm.Cond.laysFinal "FootOut$Reader" "FootOut$Reader" "size" "I") ∈ lw_all := lw_g (lw_at lw_m2 111 rfl) rfl
theorem q475 : (Jvm.Cond.soleField "FootOut$Reader" "size") ∈ lw_all := lw_g (lw_at lw_m2 112 rfl) rfl
theorem q476 : (Jvm.Cond.laysFinal "FootOut$Reader" "FootOut$Reader" "scene" "LFootOut$Scene;") ∈ lw_all := lw_g (lw_at lw_m2 113 rfl) rfl
theorem q477 : (Jvm.Cond.soleField "FootOut$Reader" "scene") ∈ lw_all := lw_g (lw_at lw_m2 114 rfl) rfl
theorem q478 : (Jvm.Cond.laysFinal "FootOut$Reader" "FootOut$Reader" "law" "Ljava/util/ArrayList;") ∈ lw_all := lw_g (lw_at lw_m2 115 rfl) rfl
theorem q479 : (Jvm.Cond.soleField "FootOut$Reader" "law") ∈ lw_all := lw_g (lw_at lw_m2 116 rfl) rfl
theorem q480 : (Jvm.Cond.lays "FootOut$Reader" "FootOut$Reader" "at" "I") ∈ lw_all := lw_g (lw_at lw_m2 117 rfl) rfl
theorem q481 : (Jvm.Cond.soleField "FootOut$Reader" "at") ∈ lw_all := lw_g (lw_at lw_m2 118 rfl) rfl
theorem q482 : (Jvm.Cond.lays "FootOut$Reader" "FootOut$Reader" "begin" "I") ∈ lw_all := lw_g (lw_at lw_m2 119 rfl) rfl
theorem q483 : (Jvm.Cond.soleField "FootOut$Reader" "begin") ∈ lw_all := lw_g (lw_at lw_m2 120 rfl) rfl
theorem q484 : (Jvm.Cond.lays "FootOut$Reader" "FootOut$Reader" "token" "I") ∈ lw_all := lw_g (lw_at lw_m2 121 rfl) rfl
theorem q485 : (Jvm.Cond.soleField "FootOut$Reader" "token") ∈ lw_all := lw_g (lw_at lw_m2 122 rfl) rfl
theorem q486 : (Jvm.Cond.lays "FootOut$Reader" "FootOut$Reader" "value" "I") ∈ lw_all := lw_g (lw_at lw_m2 123 rfl) rfl
theorem q487 : (Jvm.Cond.soleField "FootOut$Reader" "value") ∈ lw_all := lw_g (lw_at lw_m2 124 rfl) rfl
theorem q488 : (Jvm.Cond.lays "FootOut$Reader" "FootOut$Reader" "open" "I") ∈ lw_all := lw_g (lw_at lw_m2 125 rfl) rfl
theorem q489 : (Jvm.Cond.soleField "FootOut$Reader" "open") ∈ lw_all := lw_g (lw_at lw_m2 126 rfl) rfl
theorem q490 : (Jvm.Cond.lays "FootOut$Reader" "FootOut$Reader" "fault" "I") ∈ lw_all := lw_g (lw_at lw_m2 127 rfl) rfl
theorem q491 : (Jvm.Cond.soleField "FootOut$Reader" "fault") ∈ lw_all := lw_g (lw_at lw_m2 128 rfl) rfl
theorem q492 : (Jvm.Cond.lays "FootOut$Reader" "FootOut$Reader" "place" "I") ∈ lw_all := lw_g (lw_at lw_m2 129 rfl) rfl
theorem q493 : (Jvm.Cond.soleField "FootOut$Reader" "place") ∈ lw_all := lw_g (lw_at lw_m2 130 rfl) rfl
theorem q494 : (Jvm.Cond.laysFinal "FootOut$Reader" "FootOut$Reader" "this$0" "LFootOut;") ∈ lw_all := lw_g (lw_at lw_m2 131 rfl) rfl
theorem q495 : (Jvm.Cond.soleField "FootOut$Reader" "this$0") ∈ lw_all := lw_g (lw_at lw_m2 132 rfl) rfl
theorem q496 : (Jvm.Cond.superclass "FootOut$Reader" "java/lang/Object") ∈ lw_all := lw_g (lw_at lw_m2 133 rfl) rfl
theorem q498 : (Jvm.Cond.instanceMethod ({ cls := "FootOut$Reader", name := "scene", desc := "()V" } : Jvm.MethodName)) ∈ lw_all := lw_g (lw_at lw_m2 135 rfl) rfl
theorem q499 : (Jvm.Cond.selects "FootOut$Reader" ({ cls := "FootOut$Reader", name := "scene", desc := "()V" } : Jvm.MethodName) ({ cls := "FootOut$Reader", name := "scene", desc := "()V" } : Jvm.MethodName)) ∈ lw_all := lw_g (lw_at lw_m2 136 rfl) rfl
theorem q500 : (Jvm.Cond.code ({ cls := "FootOut$Reader", name := "scene", desc := "()V" } : Jvm.MethodName) prog_13_method_14_code (1 : Nat) (Option.none : Option Jvm.ClassFile.FieldType)) ∈ lw_all := lw_g (lw_at lw_m2 137 rfl) rfl
theorem q501 : (Jvm.Cond.methodLink "FootOut$Reader" (94 : Nat) ({ cls := "FootOut$Reader", name := "next", desc := "()V" } : Jvm.MethodName)) ∈ lw_all := lw_g (lw_at lw_m2 138 rfl) rfl
theorem q502 : (Jvm.Cond.privateMethod ({ cls := "FootOut$Reader", name := "next", desc := "()V" } : Jvm.MethodName)) ∈ lw_tbl := lw_at lw_m2 139 rfl
theorem q503 : (Jvm.Cond.instanceMethod ({ cls := "FootOut$Reader", name := "next", desc := "()V" } : Jvm.MethodName)) ∈ lw_all := lw_g (lw_at lw_m2 140 rfl) rfl
theorem q504 : (Jvm.Cond.code ({ cls := "FootOut$Reader", name := "next", desc := "()V" } : Jvm.MethodName) prog_13_method_5_code (2 : Nat) (Option.none : Option Jvm.ClassFile.FieldType)) ∈ lw_all := lw_g (lw_at lw_m2 141 rfl) rfl
theorem q505 : (Jvm.Cond.methodLink "FootOut$Reader" (42 : Nat) ({ cls := "FootOut$Reader", name := "see", desc := "(I)I" } : Jvm.MethodName)) ∈ lw_all := lw_g (lw_at lw_m2 142 rfl) rfl
theorem q506 : (Jvm.Cond.privateMethod ({ cls := "FootOut$Reader", name := "see", desc := "(I)I" } : Jvm.MethodName)) ∈ lw_tbl := lw_at lw_m2 143 rfl
theorem q507 : (Jvm.Cond.instanceMethod ({ cls := "FootOut$Reader", name := "see", desc := "(I)I" } : Jvm.MethodName)) ∈ lw_all := lw_g (lw_at lw_m2 144 rfl) rfl
theorem q508 : (Jvm.Cond.code ({ cls := "FootOut$Reader", name := "see", desc := "(I)I" } : Jvm.MethodName) prog_13_method_2_code (2 : Nat) (Option.some Jvm.ClassFile.FieldType.int)) ∈ lw_all := lw_g (lw_at lw_m2 145 rfl) rfl
theorem q509 : (Jvm.Cond.methodLink "FootOut$Reader" (67 : Nat) ({ cls := "FootOut$Reader", name := "isSmall", desc := "(I)Z" } : Jvm.MethodName)) ∈ lw_all := lw_g (lw_at lw_m2 146 rfl) rfl
theorem q510 : (Jvm.Cond.privateMethod ({ cls := "FootOut$Reader", name := "isSmall", desc := "(I)Z" } : Jvm.MethodName)) ∈ lw_tbl := lw_at lw_m2 147 rfl
theorem q511 : (Jvm.Cond.instanceMethod ({ cls := "FootOut$Reader", name := "isSmall", desc := "(I)Z" } : Jvm.MethodName)) ∈ lw_all := lw_g (lw_at lw_m2 148 rfl) rfl
theorem q512 : (Jvm.Cond.code ({ cls := "FootOut$Reader", name := "isSmall", desc := "(I)Z" } : Jvm.MethodName) prog_13_method_3_code (2 : Nat) (Option.some Jvm.ClassFile.FieldType.boolean)) ∈ lw_all := lw_g (lw_at lw_m2 149 rfl) rfl
theorem q513 : (Jvm.Cond.constantLong "FootOut$Reader" (46 : Nat) (97 : Int64)) ∈ lw_all := lw_g (lw_at lw_m2 150 rfl) rfl
theorem q514 : (Jvm.Cond.constantLong "FootOut$Reader" (48 : Nat) (122 : Int64)) ∈ lw_all := lw_g (lw_at lw_m2 151 rfl) rfl
theorem q515 : (Jvm.Cond.methodLinkNest "FootOut$Reader" (50 : Nat) ({ cls := "FootOut", name := "in", desc := "(JJJ)Z" } : Jvm.MethodName) "FootOut") ∈ lw_tbl := lw_at lw_m2 152 rfl
theorem q516 : (Jvm.Cond.methodLink "FootOut$Reader" (71 : Nat) ({ cls := "FootOut$Reader", name := "isDigit", desc := "(I)Z" } : Jvm.MethodName)) ∈ lw_all := lw_g (lw_at lw_m2 153 rfl) rfl
theorem q517 : (Jvm.Cond.privateMethod ({ cls := "FootOut$Reader", name := "isDigit", desc := "(I)Z" } : Jvm.MethodName)) ∈ lw_tbl := lw_at lw_m2 154 rfl
theorem q518 : (Jvm.Cond.instanceMethod ({ cls := "FootOut$Reader", name := "isDigit", desc := "(I)Z" } : Jvm.MethodName)) ∈ lw_all := lw_g (lw_at lw_m2 155 rfl) rfl
theorem q519 : (Jvm.Cond.code ({ cls := "FootOut$Reader", name := "isDigit", desc := "(I)Z" } : Jvm.MethodName) prog_13_method_4_code (2 : Nat) (Option.some Jvm.ClassFile.FieldType.boolean)) ∈ lw_all := lw_g (lw_at lw_m2 156 rfl) rfl
theorem q520 : (Jvm.Cond.constantLong "FootOut$Reader" (54 : Nat) (48 : Int64)) ∈ lw_all := lw_g (lw_at lw_m2 157 rfl) rfl
theorem q521 : (Jvm.Cond.constantLong "FootOut$Reader" (56 : Nat) (57 : Int64)) ∈ lw_all := lw_g (lw_at lw_m2 158 rfl) rfl
theorem q522 : (Jvm.Cond.methodLink "FootOut$Reader" (123 : Nat) ({ cls := "FootOut$Reader", name := "line", desc := "()V" } : Jvm.MethodName)) ∈ lw_all := lw_g (lw_at lw_m2 159 rfl) rfl
theorem q523 : (Jvm.Cond.privateMethod ({ cls := "FootOut$Reader", name := "line", desc := "()V" } : Jvm.MethodName)) ∈ lw_tbl := lw_at lw_m2 160 rfl
theorem q524 : (Jvm.Cond.instanceMethod ({ cls := "FootOut$Reader", name := "line", desc := "()V" } : Jvm.MethodName)) ∈ lw_all := lw_g (lw_at lw_m2 161 rfl) rfl
theorem q525 : (Jvm.Cond.code ({ cls := "FootOut$Reader", name := "line", desc := "()V" } : Jvm.MethodName) prog_13_method_16_code (1 : Nat) (Option.none : Option Jvm.ClassFile.FieldType)) ∈ lw_all := lw_g (lw_at lw_m2 162 rfl) rfl
theorem q526 : (Jvm.Cond.stringRef "FootOut$Reader" (151 : Nat) "car") ∈ lw_tbl := lw_at lw_m2 163 rfl
theorem q527 : (Jvm.Cond.methodLink "FootOut$Reader" (90 : Nat) ({ cls := "FootOut$Reader", name := "is", desc := "(Ljava/lang/String;)Z" } : Jvm.MethodName)) ∈ lw_all := lw_g (lw_at lw_m2 164 rfl) rfl
theorem q528 : (Jvm.Cond.privateMethod ({ cls := "FootOut$Reader", name := "is", desc := "(Ljava/lang/String;)Z" } : Jvm.MethodName)) ∈ lw_tbl := lw_at lw_m2 165 rfl
theorem q529 : (Jvm.Cond.instanceMethod ({ cls := "FootOut$Reader", name := "is", desc := "(Ljava/lang/String;)Z" } : Jvm.MethodName)) ∈ lw_all := lw_g (lw_at lw_m2 166 rfl) rfl
theorem q530 : (Jvm.Cond.code ({ cls := "FootOut$Reader", name := "is", desc := "(Ljava/lang/String;)Z" } : Jvm.MethodName) prog_13_method_7_code (3 : Nat) (Option.some Jvm.ClassFile.FieldType.boolean)) ∈ lw_all := lw_g (lw_at lw_m2 167 rfl) rfl
theorem q531 : (Jvm.Cond.methodLink "FootOut$Reader" (80 : Nat) ({ cls := "java/lang/String", name := "length", desc := "()I" } : Jvm.MethodName)) ∈ lw_all := lw_g (lw_at lw_m2 168 rfl) rfl
theorem q541 : (Jvm.Cond.methodLink "FootOut$Reader" (86 : Nat) ({ cls := "java/lang/String", name := "charAt", desc := "(I)C" } : Jvm.MethodName)) ∈ lw_all := lw_g (lw_at lw_m2 178 rfl) rfl
theorem q579 : (Jvm.Cond.methodLink "FootOut$Reader" (153 : Nat) ({ cls := "FootOut$Reader", name := "car", desc := "()V" } : Jvm.MethodName)) ∈ lw_all := lw_g (lw_at lw_m2 216 rfl) rfl
theorem q580 : (Jvm.Cond.privateMethod ({ cls := "FootOut$Reader", name := "car", desc := "()V" } : Jvm.MethodName)) ∈ lw_tbl := lw_at lw_m2 217 rfl
theorem q581 : (Jvm.Cond.instanceMethod ({ cls := "FootOut$Reader", name := "car", desc := "()V" } : Jvm.MethodName)) ∈ lw_all := lw_g (lw_at lw_m2 218 rfl) rfl
theorem q582 : (Jvm.Cond.code ({ cls := "FootOut$Reader", name := "car", desc := "()V" } : Jvm.MethodName) prog_13_method_18_code (5 : Nat) (Option.none : Option Jvm.ClassFile.FieldType)) ∈ lw_all := lw_g (lw_at lw_m2 219 rfl) rfl
theorem q583 : (Jvm.Cond.methodLink "FootOut$Reader" (135 : Nat) ({ cls := "java/util/ArrayList", name := "size", desc := "()I" } : Jvm.MethodName)) ∈ lw_all := lw_g (lw_at lw_m2 220 rfl) rfl
theorem q587 : (Jvm.Cond.methodLink "FootOut$Reader" (186 : Nat) ({ cls := "FootOut$Reader", name := "space", desc := "(Z)V" } : Jvm.MethodName)) ∈ lw_all := lw_g (lw_at lw_m2 224 rfl) rfl
theorem q588 : (Jvm.Cond.privateMethod ({ cls := "FootOut$Reader", name := "space", desc := "(Z)V" } : Jvm.MethodName)) ∈ lw_tbl := lw_at lw_m2 225 rfl
theorem q589 : (Jvm.Cond.instanceMethod ({ cls := "FootOut$Reader", name := "space", desc := "(Z)V" } : Jvm.MethodName)) ∈ lw_all := lw_g (lw_at lw_m2 226 rfl) rfl
theorem q590 : (Jvm.Cond.code ({ cls := "FootOut$Reader", name := "space", desc := "(Z)V" } : Jvm.MethodName) prog_13_method_12_code (2 : Nat) (Option.none : Option Jvm.ClassFile.FieldType)) ∈ lw_all := lw_g (lw_at lw_m2 227 rfl) rfl
theorem q591 : (Jvm.Cond.methodLink "FootOut$Reader" (97 : Nat) ({ cls := "FootOut$Reader", name := "wrong", desc := "(I)V" } : Jvm.MethodName)) ∈ lw_all := lw_g (lw_at lw_m2 228 rfl) rfl
theorem q592 : (Jvm.Cond.privateMethod ({ cls := "FootOut$Reader", name := "wrong", desc := "(I)V" } : Jvm.MethodName)) ∈ lw_tbl := lw_at lw_m2 229 rfl
theorem q593 : (Jvm.Cond.instanceMethod ({ cls := "FootOut$Reader", name := "wrong", desc := "(I)V" } : Jvm.MethodName)) ∈ lw_all := lw_g (lw_at lw_m2 230 rfl) rfl
theorem q594 : (Jvm.Cond.code ({ cls := "FootOut$Reader", name := "wrong", desc := "(I)V" } : Jvm.MethodName) prog_13_method_6_code (2 : Nat) (Option.none : Option Jvm.ClassFile.FieldType)) ∈ lw_all := lw_g (lw_at lw_m2 231 rfl) rfl
theorem q595 : (Jvm.Cond.methodLink "FootOut$Reader" (103 : Nat) ({ cls := "FootOut$Reader", name := "number", desc := "(II)I" } : Jvm.MethodName)) ∈ lw_all := lw_g (lw_at lw_m2 232 rfl) rfl
theorem q596 : (Jvm.Cond.privateMethod ({ cls := "FootOut$Reader", name := "number", desc := "(II)I" } : Jvm.MethodName)) ∈ lw_tbl := lw_at lw_m2 233 rfl
theorem q597 : (Jvm.Cond.instanceMethod ({ cls := "FootOut$Reader", name := "number", desc := "(II)I" } : Jvm.MethodName)) ∈ lw_all := lw_g (lw_at lw_m2 234 rfl) rfl
theorem q598 : (Jvm.Cond.code ({ cls := "FootOut$Reader", name := "number", desc := "(II)I" } : Jvm.MethodName) prog_13_method_9_code (4 : Nat) (Option.some Jvm.ClassFile.FieldType.int)) ∈ lw_all := lw_g (lw_at lw_m2 235 rfl) rfl
theorem q599 : (Jvm.Cond.stringRef "FootOut$Reader" (190 : Nat) "at") ∈ lw_tbl := lw_at lw_m2 236 rfl
theorem q600 : (Jvm.Cond.methodLink "FootOut$Reader" (191 : Nat) ({ cls := "FootOut$Reader", name := "told", desc := "(Ljava/lang/String;II)I" } : Jvm.MethodName)) ∈ lw_all := lw_g (lw_at lw_m2 237 rfl) rfl
theorem q601 : (Jvm.Cond.privateMethod ({ cls := "FootOut$Reader", name := "told", desc := "(Ljava/lang/String;II)I" } : Jvm.MethodName)) ∈ lw_tbl := lw_at lw_m2 238 rfl
theorem q602 : (Jvm.Cond.instanceMethod ({ cls := "FootOut$Reader", name := "told", desc := "(Ljava/lang/String;II)I" } : Jvm.MethodName)) ∈ lw_all := lw_g (lw_at lw_m2 239 rfl) rfl
theorem q603 : (Jvm.Cond.code ({ cls := "FootOut$Reader", name := "told", desc := "(Ljava/lang/String;II)I" } : Jvm.MethodName) prog_13_method_10_code (4 : Nat) (Option.some Jvm.ClassFile.FieldType.int)) ∈ lw_all := lw_g (lw_at lw_m3 0 rfl) rfl
theorem q604 : (Jvm.Cond.methodLink "FootOut$Reader" (100 : Nat) ({ cls := "FootOut$Reader", name := "takes", desc := "(Ljava/lang/String;)Z" } : Jvm.MethodName)) ∈ lw_all := lw_g (lw_at lw_m3 1 rfl) rfl
theorem q605 : (Jvm.Cond.privateMethod ({ cls := "FootOut$Reader", name := "takes", desc := "(Ljava/lang/String;)Z" } : Jvm.MethodName)) ∈ lw_tbl := lw_at lw_m3 2 rfl
theorem q606 : (Jvm.Cond.instanceMethod ({ cls := "FootOut$Reader", name := "takes", desc := "(Ljava/lang/String;)Z" } : Jvm.MethodName)) ∈ lw_all := lw_g (lw_at lw_m3 3 rfl) rfl
theorem q607 : (Jvm.Cond.code ({ cls := "FootOut$Reader", name := "takes", desc := "(Ljava/lang/String;)Z" } : Jvm.MethodName) prog_13_method_8_code (2 : Nat) (Option.some Jvm.ClassFile.FieldType.boolean)) ∈ lw_all := lw_g (lw_at lw_m3 4 rfl) rfl
theorem q608 : (Jvm.Cond.stringRef "FootOut$Reader" (195 : Nat) "pace") ∈ lw_tbl := lw_at lw_m3 5 rfl
theorem q609 : (Jvm.Cond.stringRef "FootOut$Reader" (197 : Nat) "kind") ∈ lw_tbl := lw_at lw_m3 6 rfl
theorem q610 : (Jvm.Cond.classLink "FootOut$Reader" (141 : Nat) "FootOut$Car") ∈ lw_all := lw_g (lw_at lw_m3 7 rfl) rfl
theorem q612 : (Jvm.Cond.methodLink "FootOut$Reader" (199 : Nat) ({ cls := "FootOut$Car", name := "<init>", desc := "(IIII)V" } : Jvm.MethodName)) ∈ lw_all := lw_g (lw_at lw_m3 9 rfl) rfl
theorem q623 : (Jvm.Cond.fieldLinkNest "FootOut$Reader" (143 : Nat) "FootOut$Car" "lane" "I" "FootOut") ∈ lw_tbl := lw_at lw_m3 20 rfl
theorem q643 : (Jvm.Cond.methodLink "FootOut$Reader" (202 : Nat) ({ cls := "java/util/ArrayList", name := "add", desc := "(Ljava/lang/Object;)Z" } : Jvm.MethodName)) ∈ lw_all := lw_g (lw_at lw_m3 40 rfl) rfl
theorem q688 : (Jvm.Cond.selects "FootOut$Reader" ({ cls := "java/lang/Object", name := "getClass", desc := "()Ljava/lang/Class;" } : Jvm.MethodName) ({ cls := "java/lang/Object", name := "getClass", desc := "()Ljava/lang/Class;" } : Jvm.MethodName)) ∈ lw_all := lw_g (lw_at lw_m3 85 rfl) rfl
theorem q712 : (Jvm.Cond.stringRef "FootOut$Reader" (155 : Nat) "lanes") ∈ lw_tbl := lw_at lw_m3 109 rfl
theorem q713 : (Jvm.Cond.methodLink "FootOut$Reader" (157 : Nat) ({ cls := "FootOut$Reader", name := "leastLanes", desc := "()I" } : Jvm.MethodName)) ∈ lw_all := lw_g (lw_at lw_m3 110 rfl) rfl
theorem q714 : (Jvm.Cond.privateMethod ({ cls := "FootOut$Reader", name := "leastLanes", desc := "()I" } : Jvm.MethodName)) ∈ lw_tbl := lw_at lw_m3 111 rfl
theorem q715 : (Jvm.Cond.instanceMethod ({ cls := "FootOut$Reader", name := "leastLanes", desc := "()I" } : Jvm.MethodName)) ∈ lw_all := lw_g (lw_at lw_m3 112 rfl) rfl
theorem q716 : (Jvm.Cond.code ({ cls := "FootOut$Reader", name := "leastLanes", desc := "()I" } : Jvm.MethodName) prog_13_method_15_code (3 : Nat) (Option.some Jvm.ClassFile.FieldType.int)) ∈ lw_all := lw_g (lw_at lw_m3 113 rfl) rfl
theorem q717 : (Jvm.Cond.methodLink "FootOut$Reader" (137 : Nat) ({ cls := "java/util/ArrayList", name := "get", desc := "(I)Ljava/lang/Object;" } : Jvm.MethodName)) ∈ lw_all := lw_g (lw_at lw_m3 114 rfl) rfl
theorem q729 : (Jvm.Cond.methodLink "FootOut$Reader" (146 : Nat) ({ cls := "java/lang/Math", name := "max", desc := "(II)I" } : Jvm.MethodName)) ∈ lw_all := lw_g (lw_at lw_m3 126 rfl) rfl
theorem q730 : (Jvm.Cond.stringRef "FootOut$Reader" (162 : Nat) "line") ∈ lw_tbl := lw_at lw_m3 127 rfl
theorem q731 : (Jvm.Cond.stringRef "FootOut$Reader" (165 : Nat) "gap") ∈ lw_tbl := lw_at lw_m3 128 rfl
theorem q732 : (Jvm.Cond.stringRef "FootOut$Reader" (169 : Nat) "waits") ∈ lw_tbl := lw_at lw_m3 129 rfl
theorem q733 : (Jvm.Cond.stringRef "FootOut$Reader" (173 : Nat) "sight") ∈ lw_tbl := lw_at lw_m3 130 rfl
theorem q734 : (Jvm.Cond.methodLink "FootOut$Reader" (177 : Nat) ({ cls := "FootOut$Reader", name := "traitLine", desc := "()V" } : Jvm.MethodName)) ∈ lw_all := lw_g (lw_at lw_m3 131 rfl) rfl
theorem q735 : (Jvm.Cond.privateMethod ({ cls := "FootOut$Reader", name := "traitLine", desc := "()V" } : Jvm.MethodName)) ∈ lw_tbl := lw_at lw_m3 132 rfl
theorem q736 : (Jvm.Cond.instanceMethod ({ cls := "FootOut$Reader", name := "traitLine", desc := "()V" } : Jvm.MethodName)) ∈ lw_all := lw_g (lw_at lw_m3 133 rfl) rfl
theorem q737 : (Jvm.Cond.code ({ cls := "FootOut$Reader", name := "traitLine", desc := "()V" } : Jvm.MethodName) prog_13_method_17_code (2 : Nat) (Option.none : Option Jvm.ClassFile.FieldType)) ∈ lw_all := lw_g (lw_at lw_m3 134 rfl) rfl
theorem q738 : (Jvm.Cond.methodLink "FootOut$Reader" (180 : Nat) ({ cls := "FootOut$Reader", name := "trait", desc := "()I" } : Jvm.MethodName)) ∈ lw_all := lw_g (lw_at lw_m3 135 rfl) rfl
theorem q739 : (Jvm.Cond.privateMethod ({ cls := "FootOut$Reader", name := "trait", desc := "()I" } : Jvm.MethodName)) ∈ lw_tbl := lw_at lw_m3 136 rfl
theorem q740 : (Jvm.Cond.instanceMethod ({ cls := "FootOut$Reader", name := "trait", desc := "()I" } : Jvm.MethodName)) ∈ lw_all := lw_g (lw_at lw_m3 137 rfl) rfl
theorem q741 : (Jvm.Cond.code ({ cls := "FootOut$Reader", name := "trait", desc := "()I" } : Jvm.MethodName) prog_13_method_13_code (1 : Nat) (Option.some Jvm.ClassFile.FieldType.int)) ∈ lw_all := lw_g (lw_at lw_m3 138 rfl) rfl
theorem q742 : (Jvm.Cond.stringRef "FootOut$Reader" (107 : Nat) "old") ∈ lw_tbl := lw_at lw_m3 139 rfl
theorem q743 : (Jvm.Cond.stringRef "FootOut$Reader" (109 : Nat) "pram") ∈ lw_tbl := lw_at lw_m3 140 rfl
theorem q744 : (Jvm.Cond.stringRef "FootOut$Reader" (111 : Nat) "foot") ∈ lw_tbl := lw_at lw_m3 141 rfl
theorem q745 : (Jvm.Cond.stringRef "FootOut$Reader" (113 : Nat) "eye") ∈ lw_tbl := lw_at lw_m3 142 rfl
theorem q746 : (Jvm.Cond.stringRef "FootOut$Reader" (115 : Nat) "two") ∈ lw_tbl := lw_at lw_m3 143 rfl
theorem q747 : (Jvm.Cond.stringRef "FootOut$Reader" (117 : Nat) "lamp") ∈ lw_tbl := lw_at lw_m3 144 rfl
theorem q748 : (Jvm.Cond.stringRef "FootOut$Reader" (119 : Nat) "hump") ∈ lw_tbl := lw_at lw_m3 145 rfl
theorem q749 : (Jvm.Cond.stringRef "FootOut$Reader" (121 : Nat) "paint") ∈ lw_tbl := lw_at lw_m3 146 rfl
theorem q750 : (Jvm.Cond.methodLink "FootOut$Reader" (126 : Nat) ({ cls := "FootOut$Reader", name := "over", desc := "()V" } : Jvm.MethodName)) ∈ lw_all := lw_g (lw_at lw_m3 147 rfl) rfl
theorem q751 : (Jvm.Cond.privateMethod ({ cls := "FootOut$Reader", name := "over", desc := "()V" } : Jvm.MethodName)) ∈ lw_tbl := lw_at lw_m3 148 rfl
theorem q752 : (Jvm.Cond.instanceMethod ({ cls := "FootOut$Reader", name := "over", desc := "()V" } : Jvm.MethodName)) ∈ lw_all := lw_g (lw_at lw_m3 149 rfl) rfl
theorem q753 : (Jvm.Cond.code ({ cls := "FootOut$Reader", name := "over", desc := "()V" } : Jvm.MethodName) prog_13_method_11_code (1 : Nat) (Option.none : Option Jvm.ClassFile.FieldType)) ∈ lw_all := lw_g (lw_at lw_m3 150 rfl) rfl
theorem q755 : (Jvm.Cond.instanceMethod ({ cls := "FootOut$Reader", name := "law", desc := "()V" } : Jvm.MethodName)) ∈ lw_all := lw_g (lw_at lw_m3 152 rfl) rfl
theorem q756 : (Jvm.Cond.selects "FootOut$Reader" ({ cls := "FootOut$Reader", name := "law", desc := "()V" } : Jvm.MethodName) ({ cls := "FootOut$Reader", name := "law", desc := "()V" } : Jvm.MethodName)) ∈ lw_all := lw_g (lw_at lw_m3 153 rfl) rfl
theorem q757 : (Jvm.Cond.code ({ cls := "FootOut$Reader", name := "law", desc := "()V" } : Jvm.MethodName) prog_13_method_19_code (3 : Nat) (Option.none : Option Jvm.ClassFile.FieldType)) ∈ lw_all := lw_g (lw_at lw_m3 154 rfl) rfl
theorem q758 : (Jvm.Cond.stringRef "FootOut$Reader" (206 : Nat) "stop") ∈ lw_tbl := lw_at lw_m3 155 rfl
theorem q759 : (Jvm.Cond.stringRef "FootOut$Reader" (208 : Nat) "if") ∈ lw_tbl := lw_at lw_m3 156 rfl
theorem q760 : (Jvm.Cond.methodLink "FootOut$Reader" (210 : Nat) ({ cls := "FootOut$Reader", name := "some", desc := "()LFootOut$Fact;" } : Jvm.MethodName)) ∈ lw_all := lw_g (lw_at lw_m3 157 rfl) rfl
theorem q761 : (Jvm.Cond.privateMethod ({ cls := "FootOut$Reader", name := "some", desc := "()LFootOut$Fact;" } : Jvm.MethodName)) ∈ lw_tbl := lw_at lw_m3 158 rfl
theorem q762 : (Jvm.Cond.instanceMethod ({ cls := "FootOut$Reader", name := "some", desc := "()LFootOut$Fact;" } : Jvm.MethodName)) ∈ lw_all := lw_g (lw_at lw_m3 159 rfl) rfl
theorem q763 : (Jvm.Cond.code ({ cls := "FootOut$Reader", name := "some", desc := "()LFootOut$Fact;" } : Jvm.MethodName) prog_13_method_20_code (2 : Nat) (Option.some (Jvm.ClassFile.FieldType.object "FootOut$Fact"))) ∈ lw_all := lw_g (lw_at lw_m3 160 rfl) rfl
theorem q764 : (Jvm.Cond.methodLink "FootOut$Reader" (219 : Nat) ({ cls := "FootOut$Reader", name := "all", desc := "()LFootOut$Fact;" } : Jvm.MethodName)) ∈ lw_all := lw_g (lw_at lw_m3 161 rfl) rfl
theorem q765 : (Jvm.Cond.privateMethod ({ cls := "FootOut$Reader", name := "all", desc := "()LFootOut$Fact;" } : Jvm.MethodName)) ∈ lw_tbl := lw_at lw_m3 162 rfl
theorem q766 : (Jvm.Cond.instanceMethod ({ cls := "FootOut$Reader", name := "all", desc := "()LFootOut$Fact;" } : Jvm.MethodName)) ∈ lw_all := lw_g (lw_at lw_m3 163 rfl) rfl
theorem q767 : (Jvm.Cond.code ({ cls := "FootOut$Reader", name := "all", desc := "()LFootOut$Fact;" } : Jvm.MethodName) prog_13_method_21_code (2 : Nat) (Option.some (Jvm.ClassFile.FieldType.object "FootOut$Fact"))) ∈ lw_all := lw_g (lw_at lw_m3 164 rfl) rfl
theorem q768 : (Jvm.Cond.methodLink "FootOut$Reader" (229 : Nat) ({ cls := "FootOut$Reader", name := "fact", desc := "()LFootOut$Fact;" } : Jvm.MethodName)) ∈ lw_all := lw_g (lw_at lw_m3 165 rfl) rfl
theorem q769 : (Jvm.Cond.privateMethod ({ cls := "FootOut$Reader", name := "fact", desc := "()LFootOut$Fact;" } : Jvm.MethodName)) ∈ lw_tbl := lw_at lw_m3 166 rfl
theorem q770 : (Jvm.Cond.instanceMethod ({ cls := "FootOut$Reader", name := "fact", desc := "()LFootOut$Fact;" } : Jvm.MethodName)) ∈ lw_all := lw_g (lw_at lw_m3 167 rfl) rfl
theorem q771 : (Jvm.Cond.code ({ cls := "FootOut$Reader", name := "fact", desc := "()LFootOut$Fact;" } : Jvm.MethodName) prog_13_method_23_code (2 : Nat) (Option.some (Jvm.ClassFile.FieldType.object "FootOut$Fact"))) ∈ lw_all := lw_g (lw_at lw_m3 168 rfl) rfl
theorem q772 : (Jvm.Cond.stringRef "FootOut$Reader" (237 : Nat) "not") ∈ lw_tbl := lw_at lw_m3 169 rfl
theorem q773 : (Jvm.Cond.methodLink "FootOut$Reader" (239 : Nat) ({ cls := "FootOut$Reader", name := "opens", desc := "()V" } : Jvm.MethodName)) ∈ lw_all := lw_g (lw_at lw_m3 170 rfl) rfl
theorem q774 : (Jvm.Cond.privateMethod ({ cls := "FootOut$Reader", name := "opens", desc := "()V" } : Jvm.MethodName)) ∈ lw_tbl := lw_at lw_m3 171 rfl
theorem q775 : (Jvm.Cond.instanceMethod ({ cls := "FootOut$Reader", name := "opens", desc := "()V" } : Jvm.MethodName)) ∈ lw_all := lw_g (lw_at lw_m3 172 rfl) rfl
theorem q776 : (Jvm.Cond.code ({ cls := "FootOut$Reader", name := "opens", desc := "()V" } : Jvm.MethodName) prog_13_method_22_code (1 : Nat) (Option.none : Option Jvm.ClassFile.FieldType)) ∈ lw_all := lw_g (lw_at lw_m3 173 rfl) rfl
theorem q777 : (Jvm.Cond.classLink "FootOut$Reader" (242 : Nat) "FootOut$Not") ∈ lw_all := lw_g (lw_at lw_m3 174 rfl) rfl
theorem q779 : (Jvm.Cond.methodLink "FootOut$Reader" (244 : Nat) ({ cls := "FootOut$Not", name := "<init>", desc := "(LFootOut$Fact;)V" } : Jvm.MethodName)) ∈ lw_all := lw_g (lw_at lw_m3 176 rfl) rfl
theorem q790 : (Jvm.Cond.classLink "FootOut$Reader" (247 : Nat) "FootOut$Trait") ∈ lw_all := lw_g (lw_at lw_m3 187 rfl) rfl
theorem q792 : (Jvm.Cond.methodLink "FootOut$Reader" (249 : Nat) ({ cls := "FootOut$Trait", name := "<init>", desc := "(I)V" } : Jvm.MethodName)) ∈ lw_all := lw_g (lw_at lw_m3 189 rfl) rfl
theorem q800 : (Jvm.Cond.stringRef "FootOut$Reader" (250 : Nat) "ahead") ∈ lw_tbl := lw_at lw_m3 197 rfl
theorem q801 : (Jvm.Cond.classLink "FootOut$Reader" (252 : Nat) "FootOut$Ahead") ∈ lw_all := lw_g (lw_at lw_m3 198 rfl) rfl
theorem q803 : (Jvm.Cond.methodLinkNest "FootOut$Reader" (254 : Nat) ({ cls := "FootOut$Ahead", name := "<init>", desc := "()V" } : Jvm.MethodName) "FootOut") ∈ lw_tbl := lw_at lw_m3 200 rfl
theorem q811 : (Jvm.Cond.stringRef "FootOut$Reader" (255 : Nat) "beside") ∈ lw_tbl := lw_at lw_m3 208 rfl
theorem q812 : (Jvm.Cond.classLink "FootOut$Reader" (257 : Nat) "FootOut$Beside") ∈ lw_all := lw_g (lw_at lw_m3 209 rfl) rfl
theorem q814 : (Jvm.Cond.methodLinkNest "FootOut$Reader" (259 : Nat) ({ cls := "FootOut$Beside", name := "<init>", desc := "()V" } : Jvm.MethodName) "FootOut") ∈ lw_tbl := lw_at lw_m3 211 rfl
theorem q819 : (Jvm.Cond.stringRef "FootOut$Reader" (260 : Nat) "passed") ∈ lw_tbl := lw_at lw_m3 216 rfl
theorem q820 : (Jvm.Cond.classLink "FootOut$Reader" (262 : Nat) "FootOut$Passed") ∈ lw_all := lw_g (lw_at lw_m3 217 rfl) rfl
theorem q822 : (Jvm.Cond.methodLinkNest "FootOut$Reader" (264 : Nat) ({ cls := "FootOut$Passed", name := "<init>", desc := "()V" } : Jvm.MethodName) "FootOut") ∈ lw_tbl := lw_at lw_m3 219 rfl
theorem q827 : (Jvm.Cond.stringRef "FootOut$Reader" (265 : Nat) "in") ∈ lw_tbl := lw_at lw_m3 224 rfl
theorem q828 : (Jvm.Cond.classLink "FootOut$Reader" (266 : Nat) "FootOut$OnRoad") ∈ lw_all := lw_g (lw_at lw_m3 225 rfl) rfl
theorem q830 : (Jvm.Cond.methodLinkNest "FootOut$Reader" (268 : Nat) ({ cls := "FootOut$OnRoad", name := "<init>", desc := "()V" } : Jvm.MethodName) "FootOut") ∈ lw_tbl := lw_at lw_m3 227 rfl
theorem q835 : (Jvm.Cond.methodLink "FootOut$Reader" (269 : Nat) ({ cls := "FootOut$Reader", name := "own", desc := "()LFootOut$Fact;" } : Jvm.MethodName)) ∈ lw_all := lw_g (lw_at lw_m3 232 rfl) rfl
theorem q836 : (Jvm.Cond.privateMethod ({ cls := "FootOut$Reader", name := "own", desc := "()LFootOut$Fact;" } : Jvm.MethodName)) ∈ lw_tbl := lw_at lw_m3 233 rfl
theorem q837 : (Jvm.Cond.instanceMethod ({ cls := "FootOut$Reader", name := "own", desc := "()LFootOut$Fact;" } : Jvm.MethodName)) ∈ lw_all := lw_g (lw_at lw_m3 234 rfl) rfl
theorem q838 : (Jvm.Cond.code ({ cls := "FootOut$Reader", name := "own", desc := "()LFootOut$Fact;" } : Jvm.MethodName) prog_13_method_24_code (2 : Nat) (Option.some (Jvm.ClassFile.FieldType.object "FootOut$Fact"))) ∈ lw_all := lw_g (lw_at lw_m3 235 rfl) rfl
theorem q839 : (Jvm.Cond.stringRef "FootOut$Reader" (272 : Nat) "near") ∈ lw_tbl := lw_at lw_m3 236 rfl
theorem q840 : (Jvm.Cond.stringRef "FootOut$Reader" (274 : Nat) "fast") ∈ lw_tbl := lw_at lw_m3 237 rfl
theorem q841 : (Jvm.Cond.stringRef "FootOut$Reader" (276 : Nat) "lane") ∈ lw_tbl := lw_at lw_m3 238 rfl
theorem q842 : (Jvm.Cond.classLink "FootOut$Reader" (277 : Nat) "FootOut$Own") ∈ lw_all := lw_g (lw_at lw_m3 239 rfl) rfl
theorem q844 : (Jvm.Cond.methodLink "FootOut$Reader" (279 : Nat) ({ cls := "FootOut$Own", name := "<init>", desc := "(II)V" } : Jvm.MethodName)) ∈ lw_all := lw_g (lw_at lw_m4 1 rfl) rfl
theorem q855 : (Jvm.Cond.stringRef "FootOut$Reader" (232 : Nat) "and") ∈ lw_tbl := lw_at lw_m4 12 rfl
theorem q856 : (Jvm.Cond.classLink "FootOut$Reader" (224 : Nat) "FootOut$Both") ∈ lw_all := lw_g (lw_at lw_m4 13 rfl) rfl
theorem q858 : (Jvm.Cond.methodLink "FootOut$Reader" (226 : Nat) ({ cls := "FootOut$Both", name := "<init>", desc := "(ZLFootOut$Fact;LFootOut$Fact;)V" } : Jvm.MethodName)) ∈ lw_all := lw_g (lw_at lw_m4 15 rfl) rfl
theorem q872 : (Jvm.Cond.stringRef "FootOut$Reader" (222 : Nat) "or") ∈ lw_tbl := lw_at lw_m4 29 rfl
theorem q873 : (Jvm.Cond.classLink "FootOut$Reader" (214 : Nat) "FootOut$Stop") ∈ lw_all := lw_g (lw_at lw_m4 30 rfl) rfl
theorem q875 : (Jvm.Cond.methodLink "FootOut$Reader" (216 : Nat) ({ cls := "FootOut$Stop", name := "<init>", desc := "(ILFootOut$Fact;)V" } : Jvm.MethodName)) ∈ lw_all := lw_g (lw_at lw_m4 32 rfl) rfl
theorem q2213 : (Jvm.Cond.castable "FootOut$Reader" "java/lang/Object") ∈ lw_tbl := lw_at lw_m9 170 rfl
theorem in_X6 : ∀ w ∈ wsX60, w ∈ lw_all := lw_in wsX60 [474, 476, 478, 480, 482, 484, 486, 488, 490, 492, 494] (by decide +kernel) (by decide +kernel)

/-! FootOut$Car -/
set_option maxRecDepth 100000
def RX7 : String := "FootOut$Car"
def TX7 : u_T := fun k => match k with
  | 0 => ("FootOut$Car", "lane", "I", true)
  | 1 => ("FootOut$Car", "dist", "I", true)
  | 2 => ("FootOut$Car", "pace", "I", true)
  | _ => ("FootOut$Car", "kind", "I", true)
def tyX7 : Nat → FieldType := fun k => match k with
  | 0 => .int
  | 1 => .int
  | 2 => .int
  | _ => .int
abbrev wsX70 : List Cond := u_ws RX7 TX7 4
theorem nmX7 : ∀ a, a < 4 → ∀ b, b < 4 → a ≠ b → (TX7 a).2.1 ≠ (TX7 b).2.1 := by decide +kernel
theorem tyX7_ok : ∀ k, k < 4 → parseFieldDescriptor (TX7 k).2.2.1 = some (tyX7 k) := by decide +kernel
abbrev cX7_init : ByteArray := prog_5_method_1_code
def yX7_init : MethodName := ⟨RX7, "<init>", "(IIII)V"⟩
def dkwX7_init_1 : List UInt8 := [181, 0, 19, 177]
abbrev dktX7_init_1 : List UInt8 := dkwX7_init_1 ++ []
def dkwX7_init_0 : List UInt8 := [42, 183, 0, 1, 42, 27, 181, 0, 7, 42, 28, 181, 0, 13, 42, 29, 181, 0, 16, 42, 21, 4]
abbrev dktX7_init_0 : List UInt8 := dkwX7_init_0 ++ dktX7_init_1
theorem dksX7_init_0 : cX7_init.data.toList.drop 0 = dktX7_init_0 := by decide +kernel
theorem dksX7_init_1 : cX7_init.data.toList.drop 22 = dktX7_init_1 := dk_seg dksX7_init_0 22 rfl rfl
theorem dX7_init_0 : decode cX7_init 0 = .ok (.aload_n 0, 1) := dk_42 (dk_at dksX7_init_0 0 rfl rfl)
theorem dX7_init_1 : decode cX7_init 1 = .ok (.invokespecial 1, 3) := dk_183 0 1 (dk_at dksX7_init_0 1 rfl rfl)
theorem dX7_init_4 : decode cX7_init 4 = .ok (.aload_n 0, 1) := dk_42 (dk_at dksX7_init_0 4 rfl rfl)
theorem dX7_init_5 : decode cX7_init 5 = .ok (.iload_n 1, 1) := dk_27 (dk_at dksX7_init_0 5 rfl rfl)
theorem dX7_init_6 : decode cX7_init 6 = .ok (.putfield 7, 3) := dk_181 0 7 (dk_at dksX7_init_0 6 rfl rfl)
theorem dX7_init_9 : decode cX7_init 9 = .ok (.aload_n 0, 1) := dk_42 (dk_at dksX7_init_0 9 rfl rfl)
theorem dX7_init_10 : decode cX7_init 10 = .ok (.iload_n 2, 1) := dk_28 (dk_at dksX7_init_0 10 rfl rfl)
theorem dX7_init_11 : decode cX7_init 11 = .ok (.putfield 13, 3) := dk_181 0 13 (dk_at dksX7_init_0 11 rfl rfl)
theorem dX7_init_14 : decode cX7_init 14 = .ok (.aload_n 0, 1) := dk_42 (dk_at dksX7_init_0 14 rfl rfl)
theorem dX7_init_15 : decode cX7_init 15 = .ok (.iload_n 3, 1) := dk_29 (dk_at dksX7_init_0 15 rfl rfl)
theorem dX7_init_16 : decode cX7_init 16 = .ok (.putfield 16, 3) := dk_181 0 16 (dk_at dksX7_init_0 16 rfl rfl)
theorem dX7_init_19 : decode cX7_init 19 = .ok (.aload_n 0, 1) := dk_42 (dk_at dksX7_init_0 19 rfl rfl)
theorem dX7_init_20 : decode cX7_init 20 = .ok (.iload 4, 2) := dk_21 4 (dk_at dksX7_init_0 20 rfl rfl)
theorem dX7_init_22 : decode cX7_init 22 = .ok (.putfield 19, 3) := dk_181 0 19 (dk_at dksX7_init_1 0 rfl rfl)
theorem dX7_init_25 : decode cX7_init 25 = .ok (.return_, 1) := dk_177 (dk_at dksX7_init_1 3 rfl rfl)
theorem q138 : (Jvm.Cond.initialized "FootOut$Car") ∈ lw_all := lw_g (lw_at lw_m1 15 rfl) rfl
theorem q611 : (Jvm.Cond.instantiable "FootOut$Car" (4 : Nat)) ∈ lw_all := lw_g (lw_at lw_m3 8 rfl) rfl
theorem q613 : (Jvm.Cond.instanceMethod ({ cls := "FootOut$Car", name := "<init>", desc := "(IIII)V" } : Jvm.MethodName)) ∈ lw_all := lw_g (lw_at lw_m3 10 rfl) rfl
theorem q614 : (Jvm.Cond.code ({ cls := "FootOut$Car", name := "<init>", desc := "(IIII)V" } : Jvm.MethodName) prog_5_method_1_code (5 : Nat) (Option.none : Option Jvm.ClassFile.FieldType)) ∈ lw_all := lw_g (lw_at lw_m3 11 rfl) rfl
theorem q615 : (Jvm.Cond.methodLink "FootOut$Car" (1 : Nat) ({ cls := "java/lang/Object", name := "<init>", desc := "()V" } : Jvm.MethodName)) ∈ lw_all := lw_g (lw_at lw_m3 12 rfl) rfl
theorem q616 : (Jvm.Cond.fieldLink "FootOut$Car" (7 : Nat) "FootOut$Car" "lane" "I") ∈ lw_all := lw_g (lw_at lw_m3 13 rfl) rfl
theorem q624 : (Jvm.Cond.fieldLink "FootOut$Car" (13 : Nat) "FootOut$Car" "dist" "I") ∈ lw_all := lw_g (lw_at lw_m3 21 rfl) rfl
theorem q627 : (Jvm.Cond.fieldLink "FootOut$Car" (16 : Nat) "FootOut$Car" "pace" "I") ∈ lw_all := lw_g (lw_at lw_m3 24 rfl) rfl
theorem q630 : (Jvm.Cond.fieldLink "FootOut$Car" (19 : Nat) "FootOut$Car" "kind" "I") ∈ lw_all := lw_g (lw_at lw_m3 27 rfl) rfl
theorem q634 : (Jvm.Cond.laysFinal "FootOut$Car" "FootOut$Car" "lane" "I") ∈ lw_all := lw_g (lw_at lw_m3 31 rfl) rfl
theorem q635 : (Jvm.Cond.soleField "FootOut$Car" "lane") ∈ lw_all := lw_g (lw_at lw_m3 32 rfl) rfl
theorem q636 : (Jvm.Cond.laysFinal "FootOut$Car" "FootOut$Car" "dist" "I") ∈ lw_all := lw_g (lw_at lw_m3 33 rfl) rfl
theorem q637 : (Jvm.Cond.soleField "FootOut$Car" "dist") ∈ lw_all := lw_g (lw_at lw_m3 34 rfl) rfl
theorem q638 : (Jvm.Cond.laysFinal "FootOut$Car" "FootOut$Car" "pace" "I") ∈ lw_all := lw_g (lw_at lw_m3 35 rfl) rfl
theorem q639 : (Jvm.Cond.soleField "FootOut$Car" "pace") ∈ lw_all := lw_g (lw_at lw_m3 36 rfl) rfl
theorem q640 : (Jvm.Cond.laysFinal "FootOut$Car" "FootOut$Car" "kind" "I") ∈ lw_all := lw_g (lw_at lw_m3 37 rfl) rfl
theorem q641 : (Jvm.Cond.soleField "FootOut$Car" "kind") ∈ lw_all := lw_g (lw_at lw_m3 38 rfl) rfl
theorem q642 : (Jvm.Cond.superclass "FootOut$Car" "java/lang/Object") ∈ lw_all := lw_g (lw_at lw_m3 39 rfl) rfl
theorem q681 : (Jvm.Cond.selects "FootOut$Car" ({ cls := "java/lang/Object", name := "getClass", desc := "()Ljava/lang/Class;" } : Jvm.MethodName) ({ cls := "java/lang/Object", name := "getClass", desc := "()Ljava/lang/Class;" } : Jvm.MethodName)) ∈ lw_all := lw_g (lw_at lw_m3 78 rfl) rfl
theorem q2214 : (Jvm.Cond.castable "FootOut$Car" "java/lang/Object") ∈ lw_tbl := lw_at lw_m9 171 rfl
theorem in_X7 : ∀ w ∈ wsX70, w ∈ lw_all := lw_in wsX70 [634, 636, 638, 640] (by decide +kernel) (by decide +kernel)

/-! FootOut$Fact -/
set_option maxRecDepth 100000
def RX8 : String := "FootOut$Fact"
abbrev cX8_init : ByteArray := prog_6_method_1_code
def yX8_init : MethodName := ⟨RX8, "<init>", "()V"⟩
theorem dX8_init_0 : decode cX8_init 0 = .ok (.aload_n 0, 1) := by decide +kernel
theorem dX8_init_1 : decode cX8_init 1 = .ok (.invokespecial 1, 3) := by decide +kernel
theorem dX8_init_4 : decode cX8_init 4 = .ok (.return_, 1) := by decide +kernel
theorem q144 : (Jvm.Cond.initialized "FootOut$Fact") ∈ lw_all := lw_g (lw_at lw_m1 21 rfl) rfl
theorem q783 : (Jvm.Cond.instanceMethod ({ cls := "FootOut$Fact", name := "<init>", desc := "()V" } : Jvm.MethodName)) ∈ lw_all := lw_g (lw_at lw_m3 180 rfl) rfl
theorem q784 : (Jvm.Cond.code ({ cls := "FootOut$Fact", name := "<init>", desc := "()V" } : Jvm.MethodName) prog_6_method_1_code (1 : Nat) (Option.none : Option Jvm.ClassFile.FieldType)) ∈ lw_all := lw_g (lw_at lw_m3 181 rfl) rfl
theorem q785 : (Jvm.Cond.methodLink "FootOut$Fact" (1 : Nat) ({ cls := "java/lang/Object", name := "<init>", desc := "()V" } : Jvm.MethodName)) ∈ lw_all := lw_g (lw_at lw_m3 182 rfl) rfl
theorem q963 : (Jvm.Cond.declares ({ cls := "FootOut$Fact", name := "is", desc := "(LFootOut$Walk;I)Z" } : Jvm.MethodName)) ∈ lw_tbl := lw_at lw_m4 120 rfl
theorem q964 : (Jvm.Cond.sameMethod "FootOut$Fact" "FootOut$Fact" "is" "(LFootOut$Walk;I)Z") ∈ lw_all := lw_g (lw_at lw_m4 121 rfl) rfl

/-! FootOut$Not -/
set_option maxRecDepth 100000
def RX9 : String := "FootOut$Not"
def TX9 : u_T := fun k => match k with
  | _ => ("FootOut$Not", "of", "LFootOut$Fact;", true)
def tyX9 : Nat → FieldType := fun k => match k with
  | _ => .object "FootOut$Fact"
abbrev wsX90 : List Cond := u_ws RX9 TX9 1
theorem nmX9 : ∀ a, a < 1 → ∀ b, b < 1 → a ≠ b → (TX9 a).2.1 ≠ (TX9 b).2.1 := by decide +kernel
theorem tyX9_ok : ∀ k, k < 1 → parseFieldDescriptor (TX9 k).2.2.1 = some (tyX9 k) := by decide +kernel
abbrev cX9_init : ByteArray := prog_7_method_1_code
def yX9_init : MethodName := ⟨RX9, "<init>", "(LFootOut$Fact;)V"⟩
def dkwX9_init_0 : List UInt8 := [42, 183, 0, 1, 42, 43, 181, 0, 7, 177]
abbrev dktX9_init_0 : List UInt8 := dkwX9_init_0 ++ []
theorem dksX9_init_0 : cX9_init.data.toList.drop 0 = dktX9_init_0 := by decide +kernel
theorem dX9_init_0 : decode cX9_init 0 = .ok (.aload_n 0, 1) := dk_42 (dk_at dksX9_init_0 0 rfl rfl)
theorem dX9_init_1 : decode cX9_init 1 = .ok (.invokespecial 1, 3) := dk_183 0 1 (dk_at dksX9_init_0 1 rfl rfl)
theorem dX9_init_4 : decode cX9_init 4 = .ok (.aload_n 0, 1) := dk_42 (dk_at dksX9_init_0 4 rfl rfl)
theorem dX9_init_5 : decode cX9_init 5 = .ok (.aload_n 1, 1) := dk_43 (dk_at dksX9_init_0 5 rfl rfl)
theorem dX9_init_6 : decode cX9_init 6 = .ok (.putfield 7, 3) := dk_181 0 7 (dk_at dksX9_init_0 6 rfl rfl)
theorem dX9_init_9 : decode cX9_init 9 = .ok (.return_, 1) := dk_177 (dk_at dksX9_init_0 9 rfl rfl)
abbrev cX9_is : ByteArray := prog_7_method_2_code
def yX9_is : MethodName := ⟨RX9, "is", "(LFootOut$Walk;I)Z"⟩
def dkwX9_is_0 : List UInt8 := [42, 180, 0, 7, 43, 28, 182, 0, 13, 154, 0, 7, 4, 167, 0, 4, 3, 172]
abbrev dktX9_is_0 : List UInt8 := dkwX9_is_0 ++ []
theorem dksX9_is_0 : cX9_is.data.toList.drop 0 = dktX9_is_0 := by decide +kernel
theorem dX9_is_0 : decode cX9_is 0 = .ok (.aload_n 0, 1) := dk_42 (dk_at dksX9_is_0 0 rfl rfl)
theorem dX9_is_1 : decode cX9_is 1 = .ok (.getfield 7, 3) := dk_180 0 7 (dk_at dksX9_is_0 1 rfl rfl)
theorem dX9_is_4 : decode cX9_is 4 = .ok (.aload_n 1, 1) := dk_43 (dk_at dksX9_is_0 4 rfl rfl)
theorem dX9_is_5 : decode cX9_is 5 = .ok (.iload_n 2, 1) := dk_28 (dk_at dksX9_is_0 5 rfl rfl)
theorem dX9_is_6 : decode cX9_is 6 = .ok (.invokevirtual 13, 3) := dk_182 0 13 (dk_at dksX9_is_0 6 rfl rfl)
theorem dX9_is_9 : decode cX9_is 9 = .ok (.ifCond .ne 7, 3) := dk_154 0 7 (dk_at dksX9_is_0 9 rfl rfl)
theorem dX9_is_12 : decode cX9_is 12 = .ok (.iconst 1, 1) := dk_4 (dk_at dksX9_is_0 12 rfl rfl)
theorem dX9_is_13 : decode cX9_is 13 = .ok (.goto 4, 3) := dk_167 0 4 (dk_at dksX9_is_0 13 rfl rfl)
theorem dX9_is_16 : decode cX9_is 16 = .ok (.iconst 0, 1) := dk_3 (dk_at dksX9_is_0 16 rfl rfl)
theorem dX9_is_17 : decode cX9_is 17 = .ok (.ireturn, 1) := dk_172 (dk_at dksX9_is_0 17 rfl rfl)
theorem q145 : (Jvm.Cond.initialized "FootOut$Not") ∈ lw_all := lw_g (lw_at lw_m1 22 rfl) rfl
theorem q682 : (Jvm.Cond.selects "FootOut$Not" ({ cls := "java/lang/Object", name := "getClass", desc := "()Ljava/lang/Class;" } : Jvm.MethodName) ({ cls := "java/lang/Object", name := "getClass", desc := "()Ljava/lang/Class;" } : Jvm.MethodName)) ∈ lw_all := lw_g (lw_at lw_m3 79 rfl) rfl
theorem q778 : (Jvm.Cond.instantiable "FootOut$Not" (1 : Nat)) ∈ lw_all := lw_g (lw_at lw_m3 175 rfl) rfl
theorem q780 : (Jvm.Cond.instanceMethod ({ cls := "FootOut$Not", name := "<init>", desc := "(LFootOut$Fact;)V" } : Jvm.MethodName)) ∈ lw_all := lw_g (lw_at lw_m3 177 rfl) rfl
theorem q781 : (Jvm.Cond.code ({ cls := "FootOut$Not", name := "<init>", desc := "(LFootOut$Fact;)V" } : Jvm.MethodName) prog_7_method_1_code (2 : Nat) (Option.none : Option Jvm.ClassFile.FieldType)) ∈ lw_all := lw_g (lw_at lw_m3 178 rfl) rfl
theorem q782 : (Jvm.Cond.methodLinkNest "FootOut$Not" (1 : Nat) ({ cls := "FootOut$Fact", name := "<init>", desc := "()V" } : Jvm.MethodName) "FootOut") ∈ lw_tbl := lw_at lw_m3 179 rfl
theorem q786 : (Jvm.Cond.fieldLink "FootOut$Not" (7 : Nat) "FootOut$Not" "of" "LFootOut$Fact;") ∈ lw_all := lw_g (lw_at lw_m3 183 rfl) rfl
theorem q787 : (Jvm.Cond.laysFinal "FootOut$Not" "FootOut$Not" "of" "LFootOut$Fact;") ∈ lw_all := lw_g (lw_at lw_m3 184 rfl) rfl
theorem q788 : (Jvm.Cond.soleField "FootOut$Not" "of") ∈ lw_all := lw_g (lw_at lw_m3 185 rfl) rfl
theorem q789 : (Jvm.Cond.superclass "FootOut$Not" "FootOut$Fact") ∈ lw_all := lw_g (lw_at lw_m3 186 rfl) rfl
theorem q992 : (Jvm.Cond.instanceMethod ({ cls := "FootOut$Not", name := "is", desc := "(LFootOut$Walk;I)Z" } : Jvm.MethodName)) ∈ lw_all := lw_g (lw_at lw_m4 149 rfl) rfl
theorem q993 : (Jvm.Cond.code ({ cls := "FootOut$Not", name := "is", desc := "(LFootOut$Walk;I)Z" } : Jvm.MethodName) prog_7_method_2_code (3 : Nat) (Option.some Jvm.ClassFile.FieldType.boolean)) ∈ lw_all := lw_g (lw_at lw_m4 150 rfl) rfl
theorem q994 : (Jvm.Cond.methodLink "FootOut$Not" (13 : Nat) ({ cls := "FootOut$Fact", name := "is", desc := "(LFootOut$Walk;I)Z" } : Jvm.MethodName)) ∈ lw_all := lw_g (lw_at lw_m4 151 rfl) rfl
theorem q1003 : (Jvm.Cond.selects "FootOut$Not" ({ cls := "FootOut$Fact", name := "is", desc := "(LFootOut$Walk;I)Z" } : Jvm.MethodName) ({ cls := "FootOut$Not", name := "is", desc := "(LFootOut$Walk;I)Z" } : Jvm.MethodName)) ∈ lw_all := lw_g (lw_at lw_m4 160 rfl) rfl
theorem q2215 : (Jvm.Cond.castable "FootOut$Not" "java/lang/Object") ∈ lw_tbl := lw_at lw_m9 172 rfl
theorem in_X9 : ∀ w ∈ wsX90, w ∈ lw_all := lw_in wsX90 [787] (by decide +kernel) (by decide +kernel)

/-! FootOut$Trait -/
set_option maxRecDepth 100000
def RX10 : String := "FootOut$Trait"
def TX10 : u_T := fun k => match k with
  | _ => ("FootOut$Trait", "trait", "I", true)
def tyX10 : Nat → FieldType := fun k => match k with
  | _ => .int
abbrev wsX100 : List Cond := u_ws RX10 TX10 1
theorem nmX10 : ∀ a, a < 1 → ∀ b, b < 1 → a ≠ b → (TX10 a).2.1 ≠ (TX10 b).2.1 := by decide +kernel
theorem tyX10_ok : ∀ k, k < 1 → parseFieldDescriptor (TX10 k).2.2.1 = some (tyX10 k) := by decide +kernel
abbrev cX10_init : ByteArray := prog_18_method_1_code
def yX10_init : MethodName := ⟨RX10, "<init>", "(I)V"⟩
def dkwX10_init_0 : List UInt8 := [42, 183, 0, 1, 42, 27, 181, 0, 7, 177]
abbrev dktX10_init_0 : List UInt8 := dkwX10_init_0 ++ []
theorem dksX10_init_0 : cX10_init.data.toList.drop 0 = dktX10_init_0 := by decide +kernel
theorem dX10_init_0 : decode cX10_init 0 = .ok (.aload_n 0, 1) := dk_42 (dk_at dksX10_init_0 0 rfl rfl)
theorem dX10_init_1 : decode cX10_init 1 = .ok (.invokespecial 1, 3) := dk_183 0 1 (dk_at dksX10_init_0 1 rfl rfl)
theorem dX10_init_4 : decode cX10_init 4 = .ok (.aload_n 0, 1) := dk_42 (dk_at dksX10_init_0 4 rfl rfl)
theorem dX10_init_5 : decode cX10_init 5 = .ok (.iload_n 1, 1) := dk_27 (dk_at dksX10_init_0 5 rfl rfl)
theorem dX10_init_6 : decode cX10_init 6 = .ok (.putfield 7, 3) := dk_181 0 7 (dk_at dksX10_init_0 6 rfl rfl)
theorem dX10_init_9 : decode cX10_init 9 = .ok (.return_, 1) := dk_177 (dk_at dksX10_init_0 9 rfl rfl)
abbrev cX10_is : ByteArray := prog_18_method_2_code
def yX10_is : MethodName := ⟨RX10, "is", "(LFootOut$Walk;I)Z"⟩
def dkwX10_is_0 : List UInt8 := [43, 180, 0, 13, 180, 0, 19, 42, 180, 0, 7, 184, 0, 24, 172]
abbrev dktX10_is_0 : List UInt8 := dkwX10_is_0 ++ []
theorem dksX10_is_0 : cX10_is.data.toList.drop 0 = dktX10_is_0 := by decide +kernel
theorem dX10_is_0 : decode cX10_is 0 = .ok (.aload_n 1, 1) := dk_43 (dk_at dksX10_is_0 0 rfl rfl)
theorem dX10_is_1 : decode cX10_is 1 = .ok (.getfield 13, 3) := dk_180 0 13 (dk_at dksX10_is_0 1 rfl rfl)
theorem dX10_is_4 : decode cX10_is 4 = .ok (.getfield 19, 3) := dk_180 0 19 (dk_at dksX10_is_0 4 rfl rfl)
theorem dX10_is_7 : decode cX10_is 7 = .ok (.aload_n 0, 1) := dk_42 (dk_at dksX10_is_0 7 rfl rfl)
theorem dX10_is_8 : decode cX10_is 8 = .ok (.getfield 7, 3) := dk_180 0 7 (dk_at dksX10_is_0 8 rfl rfl)
theorem dX10_is_11 : decode cX10_is 11 = .ok (.invokestatic 24, 3) := dk_184 0 24 (dk_at dksX10_is_0 11 rfl rfl)
theorem dX10_is_14 : decode cX10_is 14 = .ok (.ireturn, 1) := dk_172 (dk_at dksX10_is_0 14 rfl rfl)
theorem q146 : (Jvm.Cond.initialized "FootOut$Trait") ∈ lw_all := lw_g (lw_at lw_m1 23 rfl) rfl
theorem q220 : (Jvm.Cond.fieldLinkNest "FootOut$Trait" (19 : Nat) "FootOut$Scene" "traits" "I" "FootOut") ∈ lw_tbl := lw_at lw_m1 97 rfl
theorem q310 : (Jvm.Cond.fieldLinkNest "FootOut$Trait" (13 : Nat) "FootOut$Walk" "scene" "LFootOut$Scene;" "FootOut") ∈ lw_tbl := lw_at lw_m1 187 rfl
theorem q692 : (Jvm.Cond.selects "FootOut$Trait" ({ cls := "java/lang/Object", name := "getClass", desc := "()Ljava/lang/Class;" } : Jvm.MethodName) ({ cls := "java/lang/Object", name := "getClass", desc := "()Ljava/lang/Class;" } : Jvm.MethodName)) ∈ lw_all := lw_g (lw_at lw_m3 89 rfl) rfl
theorem q791 : (Jvm.Cond.instantiable "FootOut$Trait" (1 : Nat)) ∈ lw_all := lw_g (lw_at lw_m3 188 rfl) rfl
theorem q793 : (Jvm.Cond.instanceMethod ({ cls := "FootOut$Trait", name := "<init>", desc := "(I)V" } : Jvm.MethodName)) ∈ lw_all := lw_g (lw_at lw_m3 190 rfl) rfl
theorem q794 : (Jvm.Cond.code ({ cls := "FootOut$Trait", name := "<init>", desc := "(I)V" } : Jvm.MethodName) prog_18_method_1_code (2 : Nat) (Option.none : Option Jvm.ClassFile.FieldType)) ∈ lw_all := lw_g (lw_at lw_m3 191 rfl) rfl
theorem q795 : (Jvm.Cond.methodLinkNest "FootOut$Trait" (1 : Nat) ({ cls := "FootOut$Fact", name := "<init>", desc := "()V" } : Jvm.MethodName) "FootOut") ∈ lw_tbl := lw_at lw_m3 192 rfl
theorem q796 : (Jvm.Cond.fieldLink "FootOut$Trait" (7 : Nat) "FootOut$Trait" "trait" "I") ∈ lw_all := lw_g (lw_at lw_m3 193 rfl) rfl
theorem q797 : (Jvm.Cond.laysFinal "FootOut$Trait" "FootOut$Trait" "trait" "I") ∈ lw_all := lw_g (lw_at lw_m3 194 rfl) rfl
theorem q798 : (Jvm.Cond.soleField "FootOut$Trait" "trait") ∈ lw_all := lw_g (lw_at lw_m3 195 rfl) rfl
theorem q799 : (Jvm.Cond.superclass "FootOut$Trait" "FootOut$Fact") ∈ lw_all := lw_g (lw_at lw_m3 196 rfl) rfl
theorem q1000 : (Jvm.Cond.instanceMethod ({ cls := "FootOut$Trait", name := "is", desc := "(LFootOut$Walk;I)Z" } : Jvm.MethodName)) ∈ lw_all := lw_g (lw_at lw_m4 157 rfl) rfl
theorem q1001 : (Jvm.Cond.code ({ cls := "FootOut$Trait", name := "is", desc := "(LFootOut$Walk;I)Z" } : Jvm.MethodName) prog_18_method_2_code (3 : Nat) (Option.some Jvm.ClassFile.FieldType.boolean)) ∈ lw_all := lw_g (lw_at lw_m4 158 rfl) rfl
theorem q1002 : (Jvm.Cond.methodLinkNest "FootOut$Trait" (24 : Nat) ({ cls := "FootOut", name := "has", desc := "(II)Z" } : Jvm.MethodName) "FootOut") ∈ lw_tbl := lw_at lw_m4 159 rfl
theorem q1007 : (Jvm.Cond.selects "FootOut$Trait" ({ cls := "FootOut$Fact", name := "is", desc := "(LFootOut$Walk;I)Z" } : Jvm.MethodName) ({ cls := "FootOut$Trait", name := "is", desc := "(LFootOut$Walk;I)Z" } : Jvm.MethodName)) ∈ lw_all := lw_g (lw_at lw_m4 164 rfl) rfl
theorem q2216 : (Jvm.Cond.castable "FootOut$Trait" "java/lang/Object") ∈ lw_tbl := lw_at lw_m9 173 rfl
theorem in_X10 : ∀ w ∈ wsX100, w ∈ lw_all := lw_in wsX100 [797] (by decide +kernel) (by decide +kernel)

/-! FootOut$Seen -/
set_option maxRecDepth 100000
def RX11 : String := "FootOut$Seen"
abbrev cX11_init : ByteArray := prog_15_method_1_code
def yX11_init : MethodName := ⟨RX11, "<init>", "()V"⟩
theorem dX11_init_0 : decode cX11_init 0 = .ok (.aload_n 0, 1) := by decide +kernel
theorem dX11_init_1 : decode cX11_init 1 = .ok (.invokespecial 1, 3) := by decide +kernel
theorem dX11_init_4 : decode cX11_init 4 = .ok (.return_, 1) := by decide +kernel
abbrev cX11_is : ByteArray := prog_15_method_2_code
def yX11_is : MethodName := ⟨RX11, "is", "(LFootOut$Walk;I)Z"⟩
def dkwX11_is_1 : List UInt8 := [42, 43, 28, 29, 182, 0, 17, 153, 0, 5, 4, 172, 132, 3, 1, 167, 255, 219, 3, 172]
abbrev dktX11_is_1 : List UInt8 := dkwX11_is_1 ++ []
def dkwX11_is_0 : List UInt8 := [3, 62, 29, 43, 182, 0, 7, 162, 0, 35, 29, 28, 159, 0, 24, 43, 180, 0, 13, 29, 46, 158, 0, 15]
abbrev dktX11_is_0 : List UInt8 := dkwX11_is_0 ++ dktX11_is_1
theorem dksX11_is_0 : cX11_is.data.toList.drop 0 = dktX11_is_0 := by decide +kernel
theorem dksX11_is_1 : cX11_is.data.toList.drop 24 = dktX11_is_1 := dk_seg dksX11_is_0 24 rfl rfl
theorem dX11_is_0 : decode cX11_is 0 = .ok (.iconst 0, 1) := dk_3 (dk_at dksX11_is_0 0 rfl rfl)
theorem dX11_is_1 : decode cX11_is 1 = .ok (.istore_n 3, 1) := dk_62 (dk_at dksX11_is_0 1 rfl rfl)
theorem dX11_is_2 : decode cX11_is 2 = .ok (.iload_n 3, 1) := dk_29 (dk_at dksX11_is_0 2 rfl rfl)
theorem dX11_is_3 : decode cX11_is 3 = .ok (.aload_n 1, 1) := dk_43 (dk_at dksX11_is_0 3 rfl rfl)
theorem dX11_is_4 : decode cX11_is 4 = .ok (.invokevirtual 7, 3) := dk_182 0 7 (dk_at dksX11_is_0 4 rfl rfl)
theorem dX11_is_7 : decode cX11_is 7 = .ok (.if_icmp .ge 35, 3) := dk_162 0 35 (dk_at dksX11_is_0 7 rfl rfl)
theorem dX11_is_10 : decode cX11_is 10 = .ok (.iload_n 3, 1) := dk_29 (dk_at dksX11_is_0 10 rfl rfl)
theorem dX11_is_11 : decode cX11_is 11 = .ok (.iload_n 2, 1) := dk_28 (dk_at dksX11_is_0 11 rfl rfl)
theorem dX11_is_12 : decode cX11_is 12 = .ok (.if_icmp .eq 24, 3) := dk_159 0 24 (dk_at dksX11_is_0 12 rfl rfl)
theorem dX11_is_15 : decode cX11_is 15 = .ok (.aload_n 1, 1) := dk_43 (dk_at dksX11_is_0 15 rfl rfl)
theorem dX11_is_16 : decode cX11_is 16 = .ok (.getfield 13, 3) := dk_180 0 13 (dk_at dksX11_is_0 16 rfl rfl)
theorem dX11_is_19 : decode cX11_is 19 = .ok (.iload_n 3, 1) := dk_29 (dk_at dksX11_is_0 19 rfl rfl)
theorem dX11_is_20 : decode cX11_is 20 = .ok (.iaload, 1) := dk_46 (dk_at dksX11_is_0 20 rfl rfl)
theorem dX11_is_21 : decode cX11_is 21 = .ok (.ifCond .le 15, 3) := dk_158 0 15 (dk_at dksX11_is_0 21 rfl rfl)
theorem dX11_is_24 : decode cX11_is 24 = .ok (.aload_n 0, 1) := dk_42 (dk_at dksX11_is_1 0 rfl rfl)
theorem dX11_is_25 : decode cX11_is 25 = .ok (.aload_n 1, 1) := dk_43 (dk_at dksX11_is_1 1 rfl rfl)
theorem dX11_is_26 : decode cX11_is 26 = .ok (.iload_n 2, 1) := dk_28 (dk_at dksX11_is_1 2 rfl rfl)
theorem dX11_is_27 : decode cX11_is 27 = .ok (.iload_n 3, 1) := dk_29 (dk_at dksX11_is_1 3 rfl rfl)
theorem dX11_is_28 : decode cX11_is 28 = .ok (.invokevirtual 17, 3) := dk_182 0 17 (dk_at dksX11_is_1 4 rfl rfl)
theorem dX11_is_31 : decode cX11_is 31 = .ok (.ifCond .eq 5, 3) := dk_153 0 5 (dk_at dksX11_is_1 7 rfl rfl)
theorem dX11_is_34 : decode cX11_is 34 = .ok (.iconst 1, 1) := dk_4 (dk_at dksX11_is_1 10 rfl rfl)
theorem dX11_is_35 : decode cX11_is 35 = .ok (.ireturn, 1) := dk_172 (dk_at dksX11_is_1 11 rfl rfl)
theorem dX11_is_36 : decode cX11_is 36 = .ok (.iinc 3 1, 3) := dk_132 3 1 (dk_at dksX11_is_1 12 rfl rfl)
theorem dX11_is_39 : decode cX11_is 39 = .ok (.goto (-37), 3) := dk_167 255 219 (dk_at dksX11_is_1 15 rfl rfl)
theorem dX11_is_42 : decode cX11_is 42 = .ok (.iconst 0, 1) := dk_3 (dk_at dksX11_is_1 18 rfl rfl)
theorem dX11_is_43 : decode cX11_is 43 = .ok (.ireturn, 1) := dk_172 (dk_at dksX11_is_1 19 rfl rfl)
theorem q147 : (Jvm.Cond.initialized "FootOut$Seen") ∈ lw_all := lw_g (lw_at lw_m1 24 rfl) rfl
theorem q295 : (Jvm.Cond.fieldLinkNest "FootOut$Seen" (13 : Nat) "FootOut$Walk" "dist" "[I" "FootOut") ∈ lw_tbl := lw_at lw_m1 172 rfl
theorem q807 : (Jvm.Cond.instanceMethod ({ cls := "FootOut$Seen", name := "<init>", desc := "()V" } : Jvm.MethodName)) ∈ lw_all := lw_g (lw_at lw_m3 204 rfl) rfl
theorem q808 : (Jvm.Cond.code ({ cls := "FootOut$Seen", name := "<init>", desc := "()V" } : Jvm.MethodName) prog_15_method_1_code (1 : Nat) (Option.none : Option Jvm.ClassFile.FieldType)) ∈ lw_all := lw_g (lw_at lw_m3 205 rfl) rfl
theorem q809 : (Jvm.Cond.methodLinkNest "FootOut$Seen" (1 : Nat) ({ cls := "FootOut$Fact", name := "<init>", desc := "()V" } : Jvm.MethodName) "FootOut") ∈ lw_tbl := lw_at lw_m3 206 rfl
theorem q966 : (Jvm.Cond.instanceMethod ({ cls := "FootOut$Seen", name := "is", desc := "(LFootOut$Walk;I)Z" } : Jvm.MethodName)) ∈ lw_all := lw_g (lw_at lw_m4 123 rfl) rfl
theorem q967 : (Jvm.Cond.code ({ cls := "FootOut$Seen", name := "is", desc := "(LFootOut$Walk;I)Z" } : Jvm.MethodName) prog_15_method_2_code (4 : Nat) (Option.some Jvm.ClassFile.FieldType.boolean)) ∈ lw_all := lw_g (lw_at lw_m4 124 rfl) rfl
theorem q968 : (Jvm.Cond.methodLink "FootOut$Seen" (7 : Nat) ({ cls := "FootOut$Walk", name := "many", desc := "()I" } : Jvm.MethodName)) ∈ lw_all := lw_g (lw_at lw_m4 125 rfl) rfl
theorem q969 : (Jvm.Cond.methodLink "FootOut$Seen" (17 : Nat) ({ cls := "FootOut$Seen", name := "isSo", desc := "(LFootOut$Walk;II)Z" } : Jvm.MethodName)) ∈ lw_all := lw_g (lw_at lw_m4 126 rfl) rfl
theorem q970 : (Jvm.Cond.declares ({ cls := "FootOut$Seen", name := "isSo", desc := "(LFootOut$Walk;II)Z" } : Jvm.MethodName)) ∈ lw_tbl := lw_at lw_m4 127 rfl
theorem q971 : (Jvm.Cond.sameMethod "FootOut$Seen" "FootOut$Seen" "isSo" "(LFootOut$Walk;II)Z") ∈ lw_all := lw_g (lw_at lw_m4 128 rfl) rfl

/-! FootOut$Ahead -/
set_option maxRecDepth 100000
def RX12 : String := "FootOut$Ahead"
abbrev cX12_init : ByteArray := prog_2_method_1_code
def yX12_init : MethodName := ⟨RX12, "<init>", "()V"⟩
theorem dX12_init_0 : decode cX12_init 0 = .ok (.aload_n 0, 1) := by decide +kernel
theorem dX12_init_1 : decode cX12_init 1 = .ok (.invokespecial 3, 3) := by decide +kernel
theorem dX12_init_4 : decode cX12_init 4 = .ok (.return_, 1) := by decide +kernel
abbrev cX12_isSo : ByteArray := prog_2_method_2_code
def yX12_isSo : MethodName := ⟨RX12, "isSo", "(LFootOut$Walk;II)Z"⟩
def dkwX12_isSo_2 : List UInt8 := [3, 172]
abbrev dktX12_isSo_2 : List UInt8 := dkwX12_isSo_2 ++ []
def dkwX12_isSo_1 : List UInt8 := [46, 43, 180, 0, 21, 28, 46, 162, 0, 17, 43, 180, 0, 25, 29, 46, 5, 160, 0, 7, 4, 167, 0, 4]
abbrev dktX12_isSo_1 : List UInt8 := dkwX12_isSo_1 ++ dktX12_isSo_2
def dkwX12_isSo_0 : List UInt8 := [43, 29, 182, 0, 9, 180, 0, 15, 43, 28, 182, 0, 9, 180, 0, 15, 160, 0, 32, 43, 180, 0, 21, 29]
abbrev dktX12_isSo_0 : List UInt8 := dkwX12_isSo_0 ++ dktX12_isSo_1
theorem dksX12_isSo_0 : cX12_isSo.data.toList.drop 0 = dktX12_isSo_0 := by decide +kernel
theorem dksX12_isSo_1 : cX12_isSo.data.toList.drop 24 = dktX12_isSo_1 := dk_seg dksX12_isSo_0 24 rfl rfl
theorem dksX12_isSo_2 : cX12_isSo.data.toList.drop 48 = dktX12_isSo_2 := dk_seg dksX12_isSo_1 24 rfl rfl
theorem dX12_isSo_0 : decode cX12_isSo 0 = .ok (.aload_n 1, 1) := dk_43 (dk_at dksX12_isSo_0 0 rfl rfl)
theorem dX12_isSo_1 : decode cX12_isSo 1 = .ok (.iload_n 3, 1) := dk_29 (dk_at dksX12_isSo_0 1 rfl rfl)
theorem dX12_isSo_2 : decode cX12_isSo 2 = .ok (.invokevirtual 9, 3) := dk_182 0 9 (dk_at dksX12_isSo_0 2 rfl rfl)
theorem dX12_isSo_5 : decode cX12_isSo 5 = .ok (.getfield 15, 3) := dk_180 0 15 (dk_at dksX12_isSo_0 5 rfl rfl)
theorem dX12_isSo_8 : decode cX12_isSo 8 = .ok (.aload_n 1, 1) := dk_43 (dk_at dksX12_isSo_0 8 rfl rfl)
theorem dX12_isSo_9 : decode cX12_isSo 9 = .ok (.iload_n 2, 1) := dk_28 (dk_at dksX12_isSo_0 9 rfl rfl)
theorem dX12_isSo_10 : decode cX12_isSo 10 = .ok (.invokevirtual 9, 3) := dk_182 0 9 (dk_at dksX12_isSo_0 10 rfl rfl)
theorem dX12_isSo_13 : decode cX12_isSo 13 = .ok (.getfield 15, 3) := dk_180 0 15 (dk_at dksX12_isSo_0 13 rfl rfl)
theorem dX12_isSo_16 : decode cX12_isSo 16 = .ok (.if_icmp .ne 32, 3) := dk_160 0 32 (dk_at dksX12_isSo_0 16 rfl rfl)
theorem dX12_isSo_19 : decode cX12_isSo 19 = .ok (.aload_n 1, 1) := dk_43 (dk_at dksX12_isSo_0 19 rfl rfl)
theorem dX12_isSo_20 : decode cX12_isSo 20 = .ok (.getfield 21, 3) := dk_180 0 21 (dk_at dksX12_isSo_0 20 rfl rfl)
theorem dX12_isSo_23 : decode cX12_isSo 23 = .ok (.iload_n 3, 1) := dk_29 (dk_at dksX12_isSo_0 23 rfl rfl)
theorem dX12_isSo_24 : decode cX12_isSo 24 = .ok (.iaload, 1) := dk_46 (dk_at dksX12_isSo_1 0 rfl rfl)
theorem dX12_isSo_25 : decode cX12_isSo 25 = .ok (.aload_n 1, 1) := dk_43 (dk_at dksX12_isSo_1 1 rfl rfl)
theorem dX12_isSo_26 : decode cX12_isSo 26 = .ok (.getfield 21, 3) := dk_180 0 21 (dk_at dksX12_isSo_1 2 rfl rfl)
theorem dX12_isSo_29 : decode cX12_isSo 29 = .ok (.iload_n 2, 1) := dk_28 (dk_at dksX12_isSo_1 5 rfl rfl)
theorem dX12_isSo_30 : decode cX12_isSo 30 = .ok (.iaload, 1) := dk_46 (dk_at dksX12_isSo_1 6 rfl rfl)
theorem dX12_isSo_31 : decode cX12_isSo 31 = .ok (.if_icmp .ge 17, 3) := dk_162 0 17 (dk_at dksX12_isSo_1 7 rfl rfl)
theorem dX12_isSo_34 : decode cX12_isSo 34 = .ok (.aload_n 1, 1) := dk_43 (dk_at dksX12_isSo_1 10 rfl rfl)
theorem dX12_isSo_35 : decode cX12_isSo 35 = .ok (.getfield 25, 3) := dk_180 0 25 (dk_at dksX12_isSo_1 11 rfl rfl)
theorem dX12_isSo_38 : decode cX12_isSo 38 = .ok (.iload_n 3, 1) := dk_29 (dk_at dksX12_isSo_1 14 rfl rfl)
theorem dX12_isSo_39 : decode cX12_isSo 39 = .ok (.iaload, 1) := dk_46 (dk_at dksX12_isSo_1 15 rfl rfl)
theorem dX12_isSo_40 : decode cX12_isSo 40 = .ok (.iconst 2, 1) := dk_5 (dk_at dksX12_isSo_1 16 rfl rfl)
theorem dX12_isSo_41 : decode cX12_isSo 41 = .ok (.if_icmp .ne 7, 3) := dk_160 0 7 (dk_at dksX12_isSo_1 17 rfl rfl)
theorem dX12_isSo_44 : decode cX12_isSo 44 = .ok (.iconst 1, 1) := dk_4 (dk_at dksX12_isSo_1 20 rfl rfl)
theorem dX12_isSo_45 : decode cX12_isSo 45 = .ok (.goto 4, 3) := dk_167 0 4 (dk_at dksX12_isSo_1 21 rfl rfl)
theorem dX12_isSo_48 : decode cX12_isSo 48 = .ok (.iconst 0, 1) := dk_3 (dk_at dksX12_isSo_2 0 rfl rfl)
theorem dX12_isSo_49 : decode cX12_isSo 49 = .ok (.ireturn, 1) := dk_172 (dk_at dksX12_isSo_2 1 rfl rfl)
theorem q148 : (Jvm.Cond.initialized "FootOut$Ahead") ∈ lw_all := lw_g (lw_at lw_m1 25 rfl) rfl
theorem q296 : (Jvm.Cond.fieldLinkNest "FootOut$Ahead" (21 : Nat) "FootOut$Walk" "dist" "[I" "FootOut") ∈ lw_tbl := lw_at lw_m1 173 rfl
theorem q304 : (Jvm.Cond.fieldLinkNest "FootOut$Ahead" (25 : Nat) "FootOut$Walk" "decided" "[I" "FootOut") ∈ lw_tbl := lw_at lw_m1 181 rfl
theorem q617 : (Jvm.Cond.fieldLinkNest "FootOut$Ahead" (15 : Nat) "FootOut$Car" "lane" "I" "FootOut") ∈ lw_tbl := lw_at lw_m3 14 rfl
theorem q678 : (Jvm.Cond.selects "FootOut$Ahead" ({ cls := "java/lang/Object", name := "getClass", desc := "()Ljava/lang/Class;" } : Jvm.MethodName) ({ cls := "java/lang/Object", name := "getClass", desc := "()Ljava/lang/Class;" } : Jvm.MethodName)) ∈ lw_all := lw_g (lw_at lw_m3 75 rfl) rfl
theorem q802 : (Jvm.Cond.instantiable "FootOut$Ahead" (0 : Nat)) ∈ lw_all := lw_g (lw_at lw_m3 199 rfl) rfl
theorem q804 : (Jvm.Cond.instanceMethod ({ cls := "FootOut$Ahead", name := "<init>", desc := "()V" } : Jvm.MethodName)) ∈ lw_all := lw_g (lw_at lw_m3 201 rfl) rfl
theorem q805 : (Jvm.Cond.code ({ cls := "FootOut$Ahead", name := "<init>", desc := "()V" } : Jvm.MethodName) prog_2_method_1_code (1 : Nat) (Option.none : Option Jvm.ClassFile.FieldType)) ∈ lw_all := lw_g (lw_at lw_m3 202 rfl) rfl
theorem q806 : (Jvm.Cond.methodLinkNest "FootOut$Ahead" (3 : Nat) ({ cls := "FootOut$Seen", name := "<init>", desc := "()V" } : Jvm.MethodName) "FootOut") ∈ lw_tbl := lw_at lw_m3 203 rfl
theorem q810 : (Jvm.Cond.superclass "FootOut$Ahead" "FootOut$Seen") ∈ lw_all := lw_g (lw_at lw_m3 207 rfl) rfl
theorem q965 : (Jvm.Cond.selects "FootOut$Ahead" ({ cls := "FootOut$Fact", name := "is", desc := "(LFootOut$Walk;I)Z" } : Jvm.MethodName) ({ cls := "FootOut$Seen", name := "is", desc := "(LFootOut$Walk;I)Z" } : Jvm.MethodName)) ∈ lw_all := lw_g (lw_at lw_m4 122 rfl) rfl
theorem q972 : (Jvm.Cond.selects "FootOut$Ahead" ({ cls := "FootOut$Seen", name := "isSo", desc := "(LFootOut$Walk;II)Z" } : Jvm.MethodName) ({ cls := "FootOut$Ahead", name := "isSo", desc := "(LFootOut$Walk;II)Z" } : Jvm.MethodName)) ∈ lw_all := lw_g (lw_at lw_m4 129 rfl) rfl
theorem q973 : (Jvm.Cond.instanceMethod ({ cls := "FootOut$Ahead", name := "isSo", desc := "(LFootOut$Walk;II)Z" } : Jvm.MethodName)) ∈ lw_all := lw_g (lw_at lw_m4 130 rfl) rfl
theorem q974 : (Jvm.Cond.code ({ cls := "FootOut$Ahead", name := "isSo", desc := "(LFootOut$Walk;II)Z" } : Jvm.MethodName) prog_2_method_2_code (4 : Nat) (Option.some Jvm.ClassFile.FieldType.boolean)) ∈ lw_all := lw_g (lw_at lw_m4 131 rfl) rfl
theorem q975 : (Jvm.Cond.methodLink "FootOut$Ahead" (9 : Nat) ({ cls := "FootOut$Walk", name := "car", desc := "(I)LFootOut$Car;" } : Jvm.MethodName)) ∈ lw_all := lw_g (lw_at lw_m4 132 rfl) rfl
theorem q2217 : (Jvm.Cond.castable "FootOut$Ahead" "java/lang/Object") ∈ lw_tbl := lw_at lw_m9 174 rfl

/-! FootOut$Beside -/
set_option maxRecDepth 100000
def RX13 : String := "FootOut$Beside"
abbrev cX13_init : ByteArray := prog_3_method_1_code
def yX13_init : MethodName := ⟨RX13, "<init>", "()V"⟩
theorem dX13_init_0 : decode cX13_init 0 = .ok (.aload_n 0, 1) := by decide +kernel
theorem dX13_init_1 : decode cX13_init 1 = .ok (.invokespecial 3, 3) := by decide +kernel
theorem dX13_init_4 : decode cX13_init 4 = .ok (.return_, 1) := by decide +kernel
abbrev cX13_isSo : ByteArray := prog_3_method_2_code
def yX13_isSo : MethodName := ⟨RX13, "isSo", "(LFootOut$Walk;II)Z"⟩
def dkwX13_isSo_1 : List UInt8 := [43, 180, 0, 27, 29, 46, 5, 160, 0, 7, 4, 167, 0, 4, 3, 172]
abbrev dktX13_isSo_1 : List UInt8 := dkwX13_isSo_1 ++ []
def dkwX13_isSo_0 : List UInt8 := [43, 29, 182, 0, 9, 180, 0, 15, 43, 28, 182, 0, 9, 180, 0, 15, 100, 184, 0, 21, 4, 160, 0, 17]
abbrev dktX13_isSo_0 : List UInt8 := dkwX13_isSo_0 ++ dktX13_isSo_1
theorem dksX13_isSo_0 : cX13_isSo.data.toList.drop 0 = dktX13_isSo_0 := by decide +kernel
theorem dksX13_isSo_1 : cX13_isSo.data.toList.drop 24 = dktX13_isSo_1 := dk_seg dksX13_isSo_0 24 rfl rfl
theorem dX13_isSo_0 : decode cX13_isSo 0 = .ok (.aload_n 1, 1) := dk_43 (dk_at dksX13_isSo_0 0 rfl rfl)
theorem dX13_isSo_1 : decode cX13_isSo 1 = .ok (.iload_n 3, 1) := dk_29 (dk_at dksX13_isSo_0 1 rfl rfl)
theorem dX13_isSo_2 : decode cX13_isSo 2 = .ok (.invokevirtual 9, 3) := dk_182 0 9 (dk_at dksX13_isSo_0 2 rfl rfl)
theorem dX13_isSo_5 : decode cX13_isSo 5 = .ok (.getfield 15, 3) := dk_180 0 15 (dk_at dksX13_isSo_0 5 rfl rfl)
theorem dX13_isSo_8 : decode cX13_isSo 8 = .ok (.aload_n 1, 1) := dk_43 (dk_at dksX13_isSo_0 8 rfl rfl)
theorem dX13_isSo_9 : decode cX13_isSo 9 = .ok (.iload_n 2, 1) := dk_28 (dk_at dksX13_isSo_0 9 rfl rfl)
theorem dX13_isSo_10 : decode cX13_isSo 10 = .ok (.invokevirtual 9, 3) := dk_182 0 9 (dk_at dksX13_isSo_0 10 rfl rfl)
theorem dX13_isSo_13 : decode cX13_isSo 13 = .ok (.getfield 15, 3) := dk_180 0 15 (dk_at dksX13_isSo_0 13 rfl rfl)
theorem dX13_isSo_16 : decode cX13_isSo 16 = .ok (.isub, 1) := dk_100 (dk_at dksX13_isSo_0 16 rfl rfl)
theorem dX13_isSo_17 : decode cX13_isSo 17 = .ok (.invokestatic 21, 3) := dk_184 0 21 (dk_at dksX13_isSo_0 17 rfl rfl)
theorem dX13_isSo_20 : decode cX13_isSo 20 = .ok (.iconst 1, 1) := dk_4 (dk_at dksX13_isSo_0 20 rfl rfl)
theorem dX13_isSo_21 : decode cX13_isSo 21 = .ok (.if_icmp .ne 17, 3) := dk_160 0 17 (dk_at dksX13_isSo_0 21 rfl rfl)
theorem dX13_isSo_24 : decode cX13_isSo 24 = .ok (.aload_n 1, 1) := dk_43 (dk_at dksX13_isSo_1 0 rfl rfl)
theorem dX13_isSo_25 : decode cX13_isSo 25 = .ok (.getfield 27, 3) := dk_180 0 27 (dk_at dksX13_isSo_1 1 rfl rfl)
theorem dX13_isSo_28 : decode cX13_isSo 28 = .ok (.iload_n 3, 1) := dk_29 (dk_at dksX13_isSo_1 4 rfl rfl)
theorem dX13_isSo_29 : decode cX13_isSo 29 = .ok (.iaload, 1) := dk_46 (dk_at dksX13_isSo_1 5 rfl rfl)
theorem dX13_isSo_30 : decode cX13_isSo 30 = .ok (.iconst 2, 1) := dk_5 (dk_at dksX13_isSo_1 6 rfl rfl)
theorem dX13_isSo_31 : decode cX13_isSo 31 = .ok (.if_icmp .ne 7, 3) := dk_160 0 7 (dk_at dksX13_isSo_1 7 rfl rfl)
theorem dX13_isSo_34 : decode cX13_isSo 34 = .ok (.iconst 1, 1) := dk_4 (dk_at dksX13_isSo_1 10 rfl rfl)
theorem dX13_isSo_35 : decode cX13_isSo 35 = .ok (.goto 4, 3) := dk_167 0 4 (dk_at dksX13_isSo_1 11 rfl rfl)
theorem dX13_isSo_38 : decode cX13_isSo 38 = .ok (.iconst 0, 1) := dk_3 (dk_at dksX13_isSo_1 14 rfl rfl)
theorem dX13_isSo_39 : decode cX13_isSo 39 = .ok (.ireturn, 1) := dk_172 (dk_at dksX13_isSo_1 15 rfl rfl)
theorem q149 : (Jvm.Cond.initialized "FootOut$Beside") ∈ lw_all := lw_g (lw_at lw_m1 26 rfl) rfl
theorem q303 : (Jvm.Cond.fieldLinkNest "FootOut$Beside" (27 : Nat) "FootOut$Walk" "decided" "[I" "FootOut") ∈ lw_tbl := lw_at lw_m1 180 rfl
theorem q618 : (Jvm.Cond.fieldLinkNest "FootOut$Beside" (15 : Nat) "FootOut$Car" "lane" "I" "FootOut") ∈ lw_tbl := lw_at lw_m3 15 rfl
theorem q679 : (Jvm.Cond.selects "FootOut$Beside" ({ cls := "java/lang/Object", name := "getClass", desc := "()Ljava/lang/Class;" } : Jvm.MethodName) ({ cls := "java/lang/Object", name := "getClass", desc := "()Ljava/lang/Class;" } : Jvm.MethodName)) ∈ lw_all := lw_g (lw_at lw_m3 76 rfl) rfl
theorem q813 : (Jvm.Cond.instantiable "FootOut$Beside" (0 : Nat)) ∈ lw_all := lw_g (lw_at lw_m3 210 rfl) rfl
theorem q815 : (Jvm.Cond.instanceMethod ({ cls := "FootOut$Beside", name := "<init>", desc := "()V" } : Jvm.MethodName)) ∈ lw_all := lw_g (lw_at lw_m3 212 rfl) rfl
theorem q816 : (Jvm.Cond.code ({ cls := "FootOut$Beside", name := "<init>", desc := "()V" } : Jvm.MethodName) prog_3_method_1_code (1 : Nat) (Option.none : Option Jvm.ClassFile.FieldType)) ∈ lw_all := lw_g (lw_at lw_m3 213 rfl) rfl
theorem q817 : (Jvm.Cond.methodLinkNest "FootOut$Beside" (3 : Nat) ({ cls := "FootOut$Seen", name := "<init>", desc := "()V" } : Jvm.MethodName) "FootOut") ∈ lw_tbl := lw_at lw_m3 214 rfl
theorem q818 : (Jvm.Cond.superclass "FootOut$Beside" "FootOut$Seen") ∈ lw_all := lw_g (lw_at lw_m3 215 rfl) rfl
theorem q976 : (Jvm.Cond.selects "FootOut$Beside" ({ cls := "FootOut$Seen", name := "isSo", desc := "(LFootOut$Walk;II)Z" } : Jvm.MethodName) ({ cls := "FootOut$Beside", name := "isSo", desc := "(LFootOut$Walk;II)Z" } : Jvm.MethodName)) ∈ lw_all := lw_g (lw_at lw_m4 133 rfl) rfl
theorem q977 : (Jvm.Cond.instanceMethod ({ cls := "FootOut$Beside", name := "isSo", desc := "(LFootOut$Walk;II)Z" } : Jvm.MethodName)) ∈ lw_all := lw_g (lw_at lw_m4 134 rfl) rfl
theorem q978 : (Jvm.Cond.code ({ cls := "FootOut$Beside", name := "isSo", desc := "(LFootOut$Walk;II)Z" } : Jvm.MethodName) prog_3_method_2_code (4 : Nat) (Option.some Jvm.ClassFile.FieldType.boolean)) ∈ lw_all := lw_g (lw_at lw_m4 135 rfl) rfl
theorem q979 : (Jvm.Cond.methodLink "FootOut$Beside" (9 : Nat) ({ cls := "FootOut$Walk", name := "car", desc := "(I)LFootOut$Car;" } : Jvm.MethodName)) ∈ lw_all := lw_g (lw_at lw_m4 136 rfl) rfl
theorem q980 : (Jvm.Cond.methodLink "FootOut$Beside" (21 : Nat) ({ cls := "java/lang/Math", name := "abs", desc := "(I)I" } : Jvm.MethodName)) ∈ lw_all := lw_g (lw_at lw_m4 137 rfl) rfl
theorem q987 : (Jvm.Cond.selects "FootOut$Beside" ({ cls := "FootOut$Fact", name := "is", desc := "(LFootOut$Walk;I)Z" } : Jvm.MethodName) ({ cls := "FootOut$Seen", name := "is", desc := "(LFootOut$Walk;I)Z" } : Jvm.MethodName)) ∈ lw_all := lw_g (lw_at lw_m4 144 rfl) rfl
theorem q2218 : (Jvm.Cond.castable "FootOut$Beside" "java/lang/Object") ∈ lw_tbl := lw_at lw_m9 175 rfl

/-! FootOut$Passed -/
set_option maxRecDepth 100000
def RX14 : String := "FootOut$Passed"
abbrev cX14_init : ByteArray := prog_11_method_1_code
def yX14_init : MethodName := ⟨RX14, "<init>", "()V"⟩
theorem dX14_init_0 : decode cX14_init 0 = .ok (.aload_n 0, 1) := by decide +kernel
theorem dX14_init_1 : decode cX14_init 1 = .ok (.invokespecial 3, 3) := by decide +kernel
theorem dX14_init_4 : decode cX14_init 4 = .ok (.return_, 1) := by decide +kernel
abbrev cX14_isSo : ByteArray := prog_11_method_2_code
def yX14_isSo : MethodName := ⟨RX14, "isSo", "(LFootOut$Walk;II)Z"⟩
def dkwX14_isSo_2 : List UInt8 := [3, 172]
abbrev dktX14_isSo_2 : List UInt8 := dkwX14_isSo_2 ++ []
def dkwX14_isSo_1 : List UInt8 := [46, 43, 180, 0, 21, 28, 46, 162, 0, 17, 43, 180, 0, 25, 29, 46, 4, 160, 0, 7, 4, 167, 0, 4]
abbrev dktX14_isSo_1 : List UInt8 := dkwX14_isSo_1 ++ dktX14_isSo_2
def dkwX14_isSo_0 : List UInt8 := [43, 29, 182, 0, 9, 180, 0, 15, 43, 28, 182, 0, 9, 180, 0, 15, 159, 0, 32, 43, 180, 0, 21, 29]
abbrev dktX14_isSo_0 : List UInt8 := dkwX14_isSo_0 ++ dktX14_isSo_1
theorem dksX14_isSo_0 : cX14_isSo.data.toList.drop 0 = dktX14_isSo_0 := by decide +kernel
theorem dksX14_isSo_1 : cX14_isSo.data.toList.drop 24 = dktX14_isSo_1 := dk_seg dksX14_isSo_0 24 rfl rfl
theorem dksX14_isSo_2 : cX14_isSo.data.toList.drop 48 = dktX14_isSo_2 := dk_seg dksX14_isSo_1 24 rfl rfl
theorem dX14_isSo_0 : decode cX14_isSo 0 = .ok (.aload_n 1, 1) := dk_43 (dk_at dksX14_isSo_0 0 rfl rfl)
theorem dX14_isSo_1 : decode cX14_isSo 1 = .ok (.iload_n 3, 1) := dk_29 (dk_at dksX14_isSo_0 1 rfl rfl)
theorem dX14_isSo_2 : decode cX14_isSo 2 = .ok (.invokevirtual 9, 3) := dk_182 0 9 (dk_at dksX14_isSo_0 2 rfl rfl)
theorem dX14_isSo_5 : decode cX14_isSo 5 = .ok (.getfield 15, 3) := dk_180 0 15 (dk_at dksX14_isSo_0 5 rfl rfl)
theorem dX14_isSo_8 : decode cX14_isSo 8 = .ok (.aload_n 1, 1) := dk_43 (dk_at dksX14_isSo_0 8 rfl rfl)
theorem dX14_isSo_9 : decode cX14_isSo 9 = .ok (.iload_n 2, 1) := dk_28 (dk_at dksX14_isSo_0 9 rfl rfl)
theorem dX14_isSo_10 : decode cX14_isSo 10 = .ok (.invokevirtual 9, 3) := dk_182 0 9 (dk_at dksX14_isSo_0 10 rfl rfl)
theorem dX14_isSo_13 : decode cX14_isSo 13 = .ok (.getfield 15, 3) := dk_180 0 15 (dk_at dksX14_isSo_0 13 rfl rfl)
theorem dX14_isSo_16 : decode cX14_isSo 16 = .ok (.if_icmp .eq 32, 3) := dk_159 0 32 (dk_at dksX14_isSo_0 16 rfl rfl)
theorem dX14_isSo_19 : decode cX14_isSo 19 = .ok (.aload_n 1, 1) := dk_43 (dk_at dksX14_isSo_0 19 rfl rfl)
theorem dX14_isSo_20 : decode cX14_isSo 20 = .ok (.getfield 21, 3) := dk_180 0 21 (dk_at dksX14_isSo_0 20 rfl rfl)
theorem dX14_isSo_23 : decode cX14_isSo 23 = .ok (.iload_n 3, 1) := dk_29 (dk_at dksX14_isSo_0 23 rfl rfl)
theorem dX14_isSo_24 : decode cX14_isSo 24 = .ok (.iaload, 1) := dk_46 (dk_at dksX14_isSo_1 0 rfl rfl)
theorem dX14_isSo_25 : decode cX14_isSo 25 = .ok (.aload_n 1, 1) := dk_43 (dk_at dksX14_isSo_1 1 rfl rfl)
theorem dX14_isSo_26 : decode cX14_isSo 26 = .ok (.getfield 21, 3) := dk_180 0 21 (dk_at dksX14_isSo_1 2 rfl rfl)
theorem dX14_isSo_29 : decode cX14_isSo 29 = .ok (.iload_n 2, 1) := dk_28 (dk_at dksX14_isSo_1 5 rfl rfl)
theorem dX14_isSo_30 : decode cX14_isSo 30 = .ok (.iaload, 1) := dk_46 (dk_at dksX14_isSo_1 6 rfl rfl)
theorem dX14_isSo_31 : decode cX14_isSo 31 = .ok (.if_icmp .ge 17, 3) := dk_162 0 17 (dk_at dksX14_isSo_1 7 rfl rfl)
theorem dX14_isSo_34 : decode cX14_isSo 34 = .ok (.aload_n 1, 1) := dk_43 (dk_at dksX14_isSo_1 10 rfl rfl)
theorem dX14_isSo_35 : decode cX14_isSo 35 = .ok (.getfield 25, 3) := dk_180 0 25 (dk_at dksX14_isSo_1 11 rfl rfl)
theorem dX14_isSo_38 : decode cX14_isSo 38 = .ok (.iload_n 3, 1) := dk_29 (dk_at dksX14_isSo_1 14 rfl rfl)
theorem dX14_isSo_39 : decode cX14_isSo 39 = .ok (.iaload, 1) := dk_46 (dk_at dksX14_isSo_1 15 rfl rfl)
theorem dX14_isSo_40 : decode cX14_isSo 40 = .ok (.iconst 1, 1) := dk_4 (dk_at dksX14_isSo_1 16 rfl rfl)
theorem dX14_isSo_41 : decode cX14_isSo 41 = .ok (.if_icmp .ne 7, 3) := dk_160 0 7 (dk_at dksX14_isSo_1 17 rfl rfl)
theorem dX14_isSo_44 : decode cX14_isSo 44 = .ok (.iconst 1, 1) := dk_4 (dk_at dksX14_isSo_1 20 rfl rfl)
theorem dX14_isSo_45 : decode cX14_isSo 45 = .ok (.goto 4, 3) := dk_167 0 4 (dk_at dksX14_isSo_1 21 rfl rfl)
theorem dX14_isSo_48 : decode cX14_isSo 48 = .ok (.iconst 0, 1) := dk_3 (dk_at dksX14_isSo_2 0 rfl rfl)
theorem dX14_isSo_49 : decode cX14_isSo 49 = .ok (.ireturn, 1) := dk_172 (dk_at dksX14_isSo_2 1 rfl rfl)
theorem q150 : (Jvm.Cond.initialized "FootOut$Passed") ∈ lw_all := lw_g (lw_at lw_m1 27 rfl) rfl
theorem q297 : (Jvm.Cond.fieldLinkNest "FootOut$Passed" (21 : Nat) "FootOut$Walk" "dist" "[I" "FootOut") ∈ lw_tbl := lw_at lw_m1 174 rfl
theorem q305 : (Jvm.Cond.fieldLinkNest "FootOut$Passed" (25 : Nat) "FootOut$Walk" "decided" "[I" "FootOut") ∈ lw_tbl := lw_at lw_m1 182 rfl
theorem q619 : (Jvm.Cond.fieldLinkNest "FootOut$Passed" (15 : Nat) "FootOut$Car" "lane" "I" "FootOut") ∈ lw_tbl := lw_at lw_m3 16 rfl
theorem q686 : (Jvm.Cond.selects "FootOut$Passed" ({ cls := "java/lang/Object", name := "getClass", desc := "()Ljava/lang/Class;" } : Jvm.MethodName) ({ cls := "java/lang/Object", name := "getClass", desc := "()Ljava/lang/Class;" } : Jvm.MethodName)) ∈ lw_all := lw_g (lw_at lw_m3 83 rfl) rfl
theorem q821 : (Jvm.Cond.instantiable "FootOut$Passed" (0 : Nat)) ∈ lw_all := lw_g (lw_at lw_m3 218 rfl) rfl
theorem q823 : (Jvm.Cond.instanceMethod ({ cls := "FootOut$Passed", name := "<init>", desc := "()V" } : Jvm.MethodName)) ∈ lw_all := lw_g (lw_at lw_m3 220 rfl) rfl
theorem q824 : (Jvm.Cond.code ({ cls := "FootOut$Passed", name := "<init>", desc := "()V" } : Jvm.MethodName) prog_11_method_1_code (1 : Nat) (Option.none : Option Jvm.ClassFile.FieldType)) ∈ lw_all := lw_g (lw_at lw_m3 221 rfl) rfl
theorem q825 : (Jvm.Cond.methodLinkNest "FootOut$Passed" (3 : Nat) ({ cls := "FootOut$Seen", name := "<init>", desc := "()V" } : Jvm.MethodName) "FootOut") ∈ lw_tbl := lw_at lw_m3 222 rfl
theorem q826 : (Jvm.Cond.superclass "FootOut$Passed" "FootOut$Seen") ∈ lw_all := lw_g (lw_at lw_m3 223 rfl) rfl
theorem q983 : (Jvm.Cond.selects "FootOut$Passed" ({ cls := "FootOut$Seen", name := "isSo", desc := "(LFootOut$Walk;II)Z" } : Jvm.MethodName) ({ cls := "FootOut$Passed", name := "isSo", desc := "(LFootOut$Walk;II)Z" } : Jvm.MethodName)) ∈ lw_all := lw_g (lw_at lw_m4 140 rfl) rfl
theorem q984 : (Jvm.Cond.instanceMethod ({ cls := "FootOut$Passed", name := "isSo", desc := "(LFootOut$Walk;II)Z" } : Jvm.MethodName)) ∈ lw_all := lw_g (lw_at lw_m4 141 rfl) rfl
theorem q985 : (Jvm.Cond.code ({ cls := "FootOut$Passed", name := "isSo", desc := "(LFootOut$Walk;II)Z" } : Jvm.MethodName) prog_11_method_2_code (4 : Nat) (Option.some Jvm.ClassFile.FieldType.boolean)) ∈ lw_all := lw_g (lw_at lw_m4 142 rfl) rfl
theorem q986 : (Jvm.Cond.methodLink "FootOut$Passed" (9 : Nat) ({ cls := "FootOut$Walk", name := "car", desc := "(I)LFootOut$Car;" } : Jvm.MethodName)) ∈ lw_all := lw_g (lw_at lw_m4 143 rfl) rfl
theorem q1006 : (Jvm.Cond.selects "FootOut$Passed" ({ cls := "FootOut$Fact", name := "is", desc := "(LFootOut$Walk;I)Z" } : Jvm.MethodName) ({ cls := "FootOut$Seen", name := "is", desc := "(LFootOut$Walk;I)Z" } : Jvm.MethodName)) ∈ lw_all := lw_g (lw_at lw_m4 163 rfl) rfl
theorem q2219 : (Jvm.Cond.castable "FootOut$Passed" "java/lang/Object") ∈ lw_tbl := lw_at lw_m9 176 rfl

/-! FootOut$OnRoad -/
set_option maxRecDepth 100000
def RX15 : String := "FootOut$OnRoad"
abbrev cX15_init : ByteArray := prog_9_method_1_code
def yX15_init : MethodName := ⟨RX15, "<init>", "()V"⟩
theorem dX15_init_0 : decode cX15_init 0 = .ok (.aload_n 0, 1) := by decide +kernel
theorem dX15_init_1 : decode cX15_init 1 = .ok (.invokespecial 1, 3) := by decide +kernel
theorem dX15_init_4 : decode cX15_init 4 = .ok (.return_, 1) := by decide +kernel
abbrev cX15_is : ByteArray := prog_9_method_2_code
def yX15_is : MethodName := ⟨RX15, "is", "(LFootOut$Walk;I)Z"⟩
def dkwX15_is_0 : List UInt8 := [43, 180, 0, 7, 157, 0, 10, 43, 180, 0, 13, 158, 0, 7, 4, 167, 0, 4, 3, 172]
abbrev dktX15_is_0 : List UInt8 := dkwX15_is_0 ++ []
theorem dksX15_is_0 : cX15_is.data.toList.drop 0 = dktX15_is_0 := by decide +kernel
theorem dX15_is_0 : decode cX15_is 0 = .ok (.aload_n 1, 1) := dk_43 (dk_at dksX15_is_0 0 rfl rfl)
theorem dX15_is_1 : decode cX15_is 1 = .ok (.getfield 7, 3) := dk_180 0 7 (dk_at dksX15_is_0 1 rfl rfl)
theorem dX15_is_4 : decode cX15_is 4 = .ok (.ifCond .gt 10, 3) := dk_157 0 10 (dk_at dksX15_is_0 4 rfl rfl)
theorem dX15_is_7 : decode cX15_is 7 = .ok (.aload_n 1, 1) := dk_43 (dk_at dksX15_is_0 7 rfl rfl)
theorem dX15_is_8 : decode cX15_is 8 = .ok (.getfield 13, 3) := dk_180 0 13 (dk_at dksX15_is_0 8 rfl rfl)
theorem dX15_is_11 : decode cX15_is 11 = .ok (.ifCond .le 7, 3) := dk_158 0 7 (dk_at dksX15_is_0 11 rfl rfl)
theorem dX15_is_14 : decode cX15_is 14 = .ok (.iconst 1, 1) := dk_4 (dk_at dksX15_is_0 14 rfl rfl)
theorem dX15_is_15 : decode cX15_is 15 = .ok (.goto 4, 3) := dk_167 0 4 (dk_at dksX15_is_0 15 rfl rfl)
theorem dX15_is_18 : decode cX15_is 18 = .ok (.iconst 0, 1) := dk_3 (dk_at dksX15_is_0 18 rfl rfl)
theorem dX15_is_19 : decode cX15_is 19 = .ok (.ireturn, 1) := dk_172 (dk_at dksX15_is_0 19 rfl rfl)
theorem q151 : (Jvm.Cond.initialized "FootOut$OnRoad") ∈ lw_all := lw_g (lw_at lw_m1 28 rfl) rfl
theorem q312 : (Jvm.Cond.fieldLinkNest "FootOut$OnRoad" (7 : Nat) "FootOut$Walk" "past" "I" "FootOut") ∈ lw_tbl := lw_at lw_m1 189 rfl
theorem q315 : (Jvm.Cond.fieldLinkNest "FootOut$OnRoad" (13 : Nat) "FootOut$Walk" "inFor" "I" "FootOut") ∈ lw_tbl := lw_at lw_m1 192 rfl
theorem q684 : (Jvm.Cond.selects "FootOut$OnRoad" ({ cls := "java/lang/Object", name := "getClass", desc := "()Ljava/lang/Class;" } : Jvm.MethodName) ({ cls := "java/lang/Object", name := "getClass", desc := "()Ljava/lang/Class;" } : Jvm.MethodName)) ∈ lw_all := lw_g (lw_at lw_m3 81 rfl) rfl
theorem q829 : (Jvm.Cond.instantiable "FootOut$OnRoad" (0 : Nat)) ∈ lw_all := lw_g (lw_at lw_m3 226 rfl) rfl
theorem q831 : (Jvm.Cond.instanceMethod ({ cls := "FootOut$OnRoad", name := "<init>", desc := "()V" } : Jvm.MethodName)) ∈ lw_all := lw_g (lw_at lw_m3 228 rfl) rfl
theorem q832 : (Jvm.Cond.code ({ cls := "FootOut$OnRoad", name := "<init>", desc := "()V" } : Jvm.MethodName) prog_9_method_1_code (1 : Nat) (Option.none : Option Jvm.ClassFile.FieldType)) ∈ lw_all := lw_g (lw_at lw_m3 229 rfl) rfl
theorem q833 : (Jvm.Cond.methodLinkNest "FootOut$OnRoad" (1 : Nat) ({ cls := "FootOut$Fact", name := "<init>", desc := "()V" } : Jvm.MethodName) "FootOut") ∈ lw_tbl := lw_at lw_m3 230 rfl
theorem q834 : (Jvm.Cond.superclass "FootOut$OnRoad" "FootOut$Fact") ∈ lw_all := lw_g (lw_at lw_m3 231 rfl) rfl
theorem q995 : (Jvm.Cond.instanceMethod ({ cls := "FootOut$OnRoad", name := "is", desc := "(LFootOut$Walk;I)Z" } : Jvm.MethodName)) ∈ lw_all := lw_g (lw_at lw_m4 152 rfl) rfl
theorem q996 : (Jvm.Cond.code ({ cls := "FootOut$OnRoad", name := "is", desc := "(LFootOut$Walk;I)Z" } : Jvm.MethodName) prog_9_method_2_code (3 : Nat) (Option.some Jvm.ClassFile.FieldType.boolean)) ∈ lw_all := lw_g (lw_at lw_m4 153 rfl) rfl
theorem q1004 : (Jvm.Cond.selects "FootOut$OnRoad" ({ cls := "FootOut$Fact", name := "is", desc := "(LFootOut$Walk;I)Z" } : Jvm.MethodName) ({ cls := "FootOut$OnRoad", name := "is", desc := "(LFootOut$Walk;I)Z" } : Jvm.MethodName)) ∈ lw_all := lw_g (lw_at lw_m4 161 rfl) rfl
theorem q2220 : (Jvm.Cond.castable "FootOut$OnRoad" "java/lang/Object") ∈ lw_tbl := lw_at lw_m9 177 rfl

/-! FootOut$Own -/
set_option maxRecDepth 100000
def RX16 : String := "FootOut$Own"
def TX16 : u_T := fun k => match k with
  | 0 => ("FootOut$Own", "what", "I", true)
  | _ => ("FootOut$Own", "number", "I", true)
def tyX16 : Nat → FieldType := fun k => match k with
  | 0 => .int
  | _ => .int
abbrev wsX160 : List Cond := u_ws RX16 TX16 2
theorem nmX16 : ∀ a, a < 2 → ∀ b, b < 2 → a ≠ b → (TX16 a).2.1 ≠ (TX16 b).2.1 := by decide +kernel
theorem tyX16_ok : ∀ k, k < 2 → parseFieldDescriptor (TX16 k).2.2.1 = some (tyX16 k) := by decide +kernel
abbrev cX16_init : ByteArray := prog_10_method_1_code
def yX16_init : MethodName := ⟨RX16, "<init>", "(II)V"⟩
def dkwX16_init_0 : List UInt8 := [42, 183, 0, 1, 42, 27, 181, 0, 7, 42, 28, 181, 0, 13, 177]
abbrev dktX16_init_0 : List UInt8 := dkwX16_init_0 ++ []
theorem dksX16_init_0 : cX16_init.data.toList.drop 0 = dktX16_init_0 := by decide +kernel
theorem dX16_init_0 : decode cX16_init 0 = .ok (.aload_n 0, 1) := dk_42 (dk_at dksX16_init_0 0 rfl rfl)
theorem dX16_init_1 : decode cX16_init 1 = .ok (.invokespecial 1, 3) := dk_183 0 1 (dk_at dksX16_init_0 1 rfl rfl)
theorem dX16_init_4 : decode cX16_init 4 = .ok (.aload_n 0, 1) := dk_42 (dk_at dksX16_init_0 4 rfl rfl)
theorem dX16_init_5 : decode cX16_init 5 = .ok (.iload_n 1, 1) := dk_27 (dk_at dksX16_init_0 5 rfl rfl)
theorem dX16_init_6 : decode cX16_init 6 = .ok (.putfield 7, 3) := dk_181 0 7 (dk_at dksX16_init_0 6 rfl rfl)
theorem dX16_init_9 : decode cX16_init 9 = .ok (.aload_n 0, 1) := dk_42 (dk_at dksX16_init_0 9 rfl rfl)
theorem dX16_init_10 : decode cX16_init 10 = .ok (.iload_n 2, 1) := dk_28 (dk_at dksX16_init_0 10 rfl rfl)
theorem dX16_init_11 : decode cX16_init 11 = .ok (.putfield 13, 3) := dk_181 0 13 (dk_at dksX16_init_0 11 rfl rfl)
theorem dX16_init_14 : decode cX16_init 14 = .ok (.return_, 1) := dk_177 (dk_at dksX16_init_0 14 rfl rfl)
abbrev cX16_is : ByteArray := prog_10_method_2_code
def yX16_is : MethodName := ⟨RX16, "is", "(LFootOut$Walk;I)Z"⟩
def dkwX16_is_3 : List UInt8 := [43, 28, 182, 0, 25, 180, 0, 34, 42, 180, 0, 13, 160, 0, 7, 4, 167, 0, 4, 3, 172]
abbrev dktX16_is_3 : List UInt8 := dkwX16_is_3 ++ []
def dkwX16_is_2 : List UInt8 := [167, 0, 4, 3, 172, 42, 180, 0, 7, 5, 160, 0, 14, 43, 28, 182, 0, 25, 180, 0, 29, 167, 0, 11]
abbrev dktX16_is_2 : List UInt8 := dkwX16_is_2 ++ dktX16_is_3
def dkwX16_is_1 : List UInt8 := [3, 172, 42, 180, 0, 7, 4, 160, 0, 22, 43, 180, 0, 22, 28, 46, 42, 180, 0, 13, 161, 0, 7, 4]
abbrev dktX16_is_1 : List UInt8 := dkwX16_is_1 ++ dktX16_is_2
def dkwX16_is_0 : List UInt8 := [42, 180, 0, 7, 154, 0, 22, 43, 180, 0, 16, 28, 46, 42, 180, 0, 13, 162, 0, 7, 4, 167, 0, 4]
abbrev dktX16_is_0 : List UInt8 := dkwX16_is_0 ++ dktX16_is_1
theorem dksX16_is_0 : cX16_is.data.toList.drop 0 = dktX16_is_0 := by decide +kernel
theorem dksX16_is_1 : cX16_is.data.toList.drop 24 = dktX16_is_1 := dk_seg dksX16_is_0 24 rfl rfl
theorem dksX16_is_2 : cX16_is.data.toList.drop 48 = dktX16_is_2 := dk_seg dksX16_is_1 24 rfl rfl
theorem dksX16_is_3 : cX16_is.data.toList.drop 72 = dktX16_is_3 := dk_seg dksX16_is_2 24 rfl rfl
theorem dX16_is_0 : decode cX16_is 0 = .ok (.aload_n 0, 1) := dk_42 (dk_at dksX16_is_0 0 rfl rfl)
theorem dX16_is_1 : decode cX16_is 1 = .ok (.getfield 7, 3) := dk_180 0 7 (dk_at dksX16_is_0 1 rfl rfl)
theorem dX16_is_4 : decode cX16_is 4 = .ok (.ifCond .ne 22, 3) := dk_154 0 22 (dk_at dksX16_is_0 4 rfl rfl)
theorem dX16_is_7 : decode cX16_is 7 = .ok (.aload_n 1, 1) := dk_43 (dk_at dksX16_is_0 7 rfl rfl)
theorem dX16_is_8 : decode cX16_is 8 = .ok (.getfield 16, 3) := dk_180 0 16 (dk_at dksX16_is_0 8 rfl rfl)
theorem dX16_is_11 : decode cX16_is 11 = .ok (.iload_n 2, 1) := dk_28 (dk_at dksX16_is_0 11 rfl rfl)
theorem dX16_is_12 : decode cX16_is 12 = .ok (.iaload, 1) := dk_46 (dk_at dksX16_is_0 12 rfl rfl)
theorem dX16_is_13 : decode cX16_is 13 = .ok (.aload_n 0, 1) := dk_42 (dk_at dksX16_is_0 13 rfl rfl)
theorem dX16_is_14 : decode cX16_is 14 = .ok (.getfield 13, 3) := dk_180 0 13 (dk_at dksX16_is_0 14 rfl rfl)
theorem dX16_is_17 : decode cX16_is 17 = .ok (.if_icmp .ge 7, 3) := dk_162 0 7 (dk_at dksX16_is_0 17 rfl rfl)
theorem dX16_is_20 : decode cX16_is 20 = .ok (.iconst 1, 1) := dk_4 (dk_at dksX16_is_0 20 rfl rfl)
theorem dX16_is_21 : decode cX16_is 21 = .ok (.goto 4, 3) := dk_167 0 4 (dk_at dksX16_is_0 21 rfl rfl)
theorem dX16_is_24 : decode cX16_is 24 = .ok (.iconst 0, 1) := dk_3 (dk_at dksX16_is_1 0 rfl rfl)
theorem dX16_is_25 : decode cX16_is 25 = .ok (.ireturn, 1) := dk_172 (dk_at dksX16_is_1 1 rfl rfl)
theorem dX16_is_26 : decode cX16_is 26 = .ok (.aload_n 0, 1) := dk_42 (dk_at dksX16_is_1 2 rfl rfl)
theorem dX16_is_27 : decode cX16_is 27 = .ok (.getfield 7, 3) := dk_180 0 7 (dk_at dksX16_is_1 3 rfl rfl)
theorem dX16_is_30 : decode cX16_is 30 = .ok (.iconst 1, 1) := dk_4 (dk_at dksX16_is_1 6 rfl rfl)
theorem dX16_is_31 : decode cX16_is 31 = .ok (.if_icmp .ne 22, 3) := dk_160 0 22 (dk_at dksX16_is_1 7 rfl rfl)
theorem dX16_is_34 : decode cX16_is 34 = .ok (.aload_n 1, 1) := dk_43 (dk_at dksX16_is_1 10 rfl rfl)
theorem dX16_is_35 : decode cX16_is 35 = .ok (.getfield 22, 3) := dk_180 0 22 (dk_at dksX16_is_1 11 rfl rfl)
theorem dX16_is_38 : decode cX16_is 38 = .ok (.iload_n 2, 1) := dk_28 (dk_at dksX16_is_1 14 rfl rfl)
theorem dX16_is_39 : decode cX16_is 39 = .ok (.iaload, 1) := dk_46 (dk_at dksX16_is_1 15 rfl rfl)
theorem dX16_is_40 : decode cX16_is 40 = .ok (.aload_n 0, 1) := dk_42 (dk_at dksX16_is_1 16 rfl rfl)
theorem dX16_is_41 : decode cX16_is 41 = .ok (.getfield 13, 3) := dk_180 0 13 (dk_at dksX16_is_1 17 rfl rfl)
theorem dX16_is_44 : decode cX16_is 44 = .ok (.if_icmp .lt 7, 3) := dk_161 0 7 (dk_at dksX16_is_1 20 rfl rfl)
theorem dX16_is_47 : decode cX16_is 47 = .ok (.iconst 1, 1) := dk_4 (dk_at dksX16_is_1 23 rfl rfl)
theorem dX16_is_48 : decode cX16_is 48 = .ok (.goto 4, 3) := dk_167 0 4 (dk_at dksX16_is_2 0 rfl rfl)
theorem dX16_is_51 : decode cX16_is 51 = .ok (.iconst 0, 1) := dk_3 (dk_at dksX16_is_2 3 rfl rfl)
theorem dX16_is_52 : decode cX16_is 52 = .ok (.ireturn, 1) := dk_172 (dk_at dksX16_is_2 4 rfl rfl)
theorem dX16_is_53 : decode cX16_is 53 = .ok (.aload_n 0, 1) := dk_42 (dk_at dksX16_is_2 5 rfl rfl)
theorem dX16_is_54 : decode cX16_is 54 = .ok (.getfield 7, 3) := dk_180 0 7 (dk_at dksX16_is_2 6 rfl rfl)
theorem dX16_is_57 : decode cX16_is 57 = .ok (.iconst 2, 1) := dk_5 (dk_at dksX16_is_2 9 rfl rfl)
theorem dX16_is_58 : decode cX16_is 58 = .ok (.if_icmp .ne 14, 3) := dk_160 0 14 (dk_at dksX16_is_2 10 rfl rfl)
theorem dX16_is_61 : decode cX16_is 61 = .ok (.aload_n 1, 1) := dk_43 (dk_at dksX16_is_2 13 rfl rfl)
theorem dX16_is_62 : decode cX16_is 62 = .ok (.iload_n 2, 1) := dk_28 (dk_at dksX16_is_2 14 rfl rfl)
theorem dX16_is_63 : decode cX16_is 63 = .ok (.invokevirtual 25, 3) := dk_182 0 25 (dk_at dksX16_is_2 15 rfl rfl)
theorem dX16_is_66 : decode cX16_is 66 = .ok (.getfield 29, 3) := dk_180 0 29 (dk_at dksX16_is_2 18 rfl rfl)
theorem dX16_is_69 : decode cX16_is 69 = .ok (.goto 11, 3) := dk_167 0 11 (dk_at dksX16_is_2 21 rfl rfl)
theorem dX16_is_72 : decode cX16_is 72 = .ok (.aload_n 1, 1) := dk_43 (dk_at dksX16_is_3 0 rfl rfl)
theorem dX16_is_73 : decode cX16_is 73 = .ok (.iload_n 2, 1) := dk_28 (dk_at dksX16_is_3 1 rfl rfl)
theorem dX16_is_74 : decode cX16_is 74 = .ok (.invokevirtual 25, 3) := dk_182 0 25 (dk_at dksX16_is_3 2 rfl rfl)
theorem dX16_is_77 : decode cX16_is 77 = .ok (.getfield 34, 3) := dk_180 0 34 (dk_at dksX16_is_3 5 rfl rfl)
theorem dX16_is_80 : decode cX16_is 80 = .ok (.aload_n 0, 1) := dk_42 (dk_at dksX16_is_3 8 rfl rfl)
theorem dX16_is_81 : decode cX16_is 81 = .ok (.getfield 13, 3) := dk_180 0 13 (dk_at dksX16_is_3 9 rfl rfl)
theorem dX16_is_84 : decode cX16_is 84 = .ok (.if_icmp .ne 7, 3) := dk_160 0 7 (dk_at dksX16_is_3 12 rfl rfl)
theorem dX16_is_87 : decode cX16_is 87 = .ok (.iconst 1, 1) := dk_4 (dk_at dksX16_is_3 15 rfl rfl)
theorem dX16_is_88 : decode cX16_is 88 = .ok (.goto 4, 3) := dk_167 0 4 (dk_at dksX16_is_3 16 rfl rfl)
theorem dX16_is_91 : decode cX16_is 91 = .ok (.iconst 0, 1) := dk_3 (dk_at dksX16_is_3 19 rfl rfl)
theorem dX16_is_92 : decode cX16_is 92 = .ok (.ireturn, 1) := dk_172 (dk_at dksX16_is_3 20 rfl rfl)
theorem q152 : (Jvm.Cond.initialized "FootOut$Own") ∈ lw_all := lw_g (lw_at lw_m1 29 rfl) rfl
theorem q294 : (Jvm.Cond.fieldLinkNest "FootOut$Own" (16 : Nat) "FootOut$Walk" "dist" "[I" "FootOut") ∈ lw_tbl := lw_at lw_m1 171 rfl
theorem q300 : (Jvm.Cond.fieldLinkNest "FootOut$Own" (22 : Nat) "FootOut$Walk" "pace" "[I" "FootOut") ∈ lw_tbl := lw_at lw_m1 177 rfl
theorem q620 : (Jvm.Cond.fieldLinkNest "FootOut$Own" (29 : Nat) "FootOut$Car" "lane" "I" "FootOut") ∈ lw_tbl := lw_at lw_m3 17 rfl
theorem q631 : (Jvm.Cond.fieldLinkNest "FootOut$Own" (34 : Nat) "FootOut$Car" "kind" "I" "FootOut") ∈ lw_tbl := lw_at lw_m3 28 rfl
theorem q685 : (Jvm.Cond.selects "FootOut$Own" ({ cls := "java/lang/Object", name := "getClass", desc := "()Ljava/lang/Class;" } : Jvm.MethodName) ({ cls := "java/lang/Object", name := "getClass", desc := "()Ljava/lang/Class;" } : Jvm.MethodName)) ∈ lw_all := lw_g (lw_at lw_m3 82 rfl) rfl
theorem q843 : (Jvm.Cond.instantiable "FootOut$Own" (2 : Nat)) ∈ lw_all := lw_g (lw_at lw_m4 0 rfl) rfl
theorem q845 : (Jvm.Cond.instanceMethod ({ cls := "FootOut$Own", name := "<init>", desc := "(II)V" } : Jvm.MethodName)) ∈ lw_all := lw_g (lw_at lw_m4 2 rfl) rfl
theorem q846 : (Jvm.Cond.code ({ cls := "FootOut$Own", name := "<init>", desc := "(II)V" } : Jvm.MethodName) prog_10_method_1_code (3 : Nat) (Option.none : Option Jvm.ClassFile.FieldType)) ∈ lw_all := lw_g (lw_at lw_m4 3 rfl) rfl
theorem q847 : (Jvm.Cond.methodLinkNest "FootOut$Own" (1 : Nat) ({ cls := "FootOut$Fact", name := "<init>", desc := "()V" } : Jvm.MethodName) "FootOut") ∈ lw_tbl := lw_at lw_m4 4 rfl
theorem q848 : (Jvm.Cond.fieldLink "FootOut$Own" (7 : Nat) "FootOut$Own" "what" "I") ∈ lw_all := lw_g (lw_at lw_m4 5 rfl) rfl
theorem q849 : (Jvm.Cond.fieldLink "FootOut$Own" (13 : Nat) "FootOut$Own" "number" "I") ∈ lw_all := lw_g (lw_at lw_m4 6 rfl) rfl
theorem q850 : (Jvm.Cond.laysFinal "FootOut$Own" "FootOut$Own" "what" "I") ∈ lw_all := lw_g (lw_at lw_m4 7 rfl) rfl
theorem q851 : (Jvm.Cond.soleField "FootOut$Own" "what") ∈ lw_all := lw_g (lw_at lw_m4 8 rfl) rfl
theorem q852 : (Jvm.Cond.laysFinal "FootOut$Own" "FootOut$Own" "number" "I") ∈ lw_all := lw_g (lw_at lw_m4 9 rfl) rfl
theorem q853 : (Jvm.Cond.soleField "FootOut$Own" "number") ∈ lw_all := lw_g (lw_at lw_m4 10 rfl) rfl
theorem q854 : (Jvm.Cond.superclass "FootOut$Own" "FootOut$Fact") ∈ lw_all := lw_g (lw_at lw_m4 11 rfl) rfl
theorem q997 : (Jvm.Cond.instanceMethod ({ cls := "FootOut$Own", name := "is", desc := "(LFootOut$Walk;I)Z" } : Jvm.MethodName)) ∈ lw_all := lw_g (lw_at lw_m4 154 rfl) rfl
theorem q998 : (Jvm.Cond.code ({ cls := "FootOut$Own", name := "is", desc := "(LFootOut$Walk;I)Z" } : Jvm.MethodName) prog_10_method_2_code (3 : Nat) (Option.some Jvm.ClassFile.FieldType.boolean)) ∈ lw_all := lw_g (lw_at lw_m4 155 rfl) rfl
theorem q999 : (Jvm.Cond.methodLink "FootOut$Own" (25 : Nat) ({ cls := "FootOut$Walk", name := "car", desc := "(I)LFootOut$Car;" } : Jvm.MethodName)) ∈ lw_all := lw_g (lw_at lw_m4 156 rfl) rfl
theorem q1005 : (Jvm.Cond.selects "FootOut$Own" ({ cls := "FootOut$Fact", name := "is", desc := "(LFootOut$Walk;I)Z" } : Jvm.MethodName) ({ cls := "FootOut$Own", name := "is", desc := "(LFootOut$Walk;I)Z" } : Jvm.MethodName)) ∈ lw_all := lw_g (lw_at lw_m4 162 rfl) rfl
theorem q2221 : (Jvm.Cond.castable "FootOut$Own" "java/lang/Object") ∈ lw_tbl := lw_at lw_m9 178 rfl
theorem in_X16 : ∀ w ∈ wsX160, w ∈ lw_all := lw_in wsX160 [850, 852] (by decide +kernel) (by decide +kernel)

/-! FootOut$Both -/
set_option maxRecDepth 100000
def RX17 : String := "FootOut$Both"
def TX17 : u_T := fun k => match k with
  | 0 => ("FootOut$Both", "isAnd", "Z", true)
  | 1 => ("FootOut$Both", "one", "LFootOut$Fact;", true)
  | _ => ("FootOut$Both", "two", "LFootOut$Fact;", true)
def tyX17 : Nat → FieldType := fun k => match k with
  | 0 => .boolean
  | 1 => .object "FootOut$Fact"
  | _ => .object "FootOut$Fact"
abbrev wsX170 : List Cond := u_ws RX17 TX17 3
theorem nmX17 : ∀ a, a < 3 → ∀ b, b < 3 → a ≠ b → (TX17 a).2.1 ≠ (TX17 b).2.1 := by decide +kernel
theorem tyX17_ok : ∀ k, k < 3 → parseFieldDescriptor (TX17 k).2.2.1 = some (tyX17 k) := by decide +kernel
abbrev cX17_init : ByteArray := prog_4_method_1_code
def yX17_init : MethodName := ⟨RX17, "<init>", "(ZLFootOut$Fact;LFootOut$Fact;)V"⟩
def dkwX17_init_0 : List UInt8 := [42, 183, 0, 1, 42, 27, 181, 0, 7, 42, 44, 181, 0, 13, 42, 45, 181, 0, 17, 177]
abbrev dktX17_init_0 : List UInt8 := dkwX17_init_0 ++ []
theorem dksX17_init_0 : cX17_init.data.toList.drop 0 = dktX17_init_0 := by decide +kernel
theorem dX17_init_0 : decode cX17_init 0 = .ok (.aload_n 0, 1) := dk_42 (dk_at dksX17_init_0 0 rfl rfl)
theorem dX17_init_1 : decode cX17_init 1 = .ok (.invokespecial 1, 3) := dk_183 0 1 (dk_at dksX17_init_0 1 rfl rfl)
theorem dX17_init_4 : decode cX17_init 4 = .ok (.aload_n 0, 1) := dk_42 (dk_at dksX17_init_0 4 rfl rfl)
theorem dX17_init_5 : decode cX17_init 5 = .ok (.iload_n 1, 1) := dk_27 (dk_at dksX17_init_0 5 rfl rfl)
theorem dX17_init_6 : decode cX17_init 6 = .ok (.putfield 7, 3) := dk_181 0 7 (dk_at dksX17_init_0 6 rfl rfl)
theorem dX17_init_9 : decode cX17_init 9 = .ok (.aload_n 0, 1) := dk_42 (dk_at dksX17_init_0 9 rfl rfl)
theorem dX17_init_10 : decode cX17_init 10 = .ok (.aload_n 2, 1) := dk_44 (dk_at dksX17_init_0 10 rfl rfl)
theorem dX17_init_11 : decode cX17_init 11 = .ok (.putfield 13, 3) := dk_181 0 13 (dk_at dksX17_init_0 11 rfl rfl)
theorem dX17_init_14 : decode cX17_init 14 = .ok (.aload_n 0, 1) := dk_42 (dk_at dksX17_init_0 14 rfl rfl)
theorem dX17_init_15 : decode cX17_init 15 = .ok (.aload_n 3, 1) := dk_45 (dk_at dksX17_init_0 15 rfl rfl)
theorem dX17_init_16 : decode cX17_init 16 = .ok (.putfield 17, 3) := dk_181 0 17 (dk_at dksX17_init_0 16 rfl rfl)
theorem dX17_init_19 : decode cX17_init 19 = .ok (.return_, 1) := dk_177 (dk_at dksX17_init_0 19 rfl rfl)
abbrev cX17_is : ByteArray := prog_4_method_2_code
def yX17_is : MethodName := ⟨RX17, "is", "(LFootOut$Walk;I)Z"⟩
def dkwX17_is_2 : List UInt8 := [154, 0, 15, 42, 180, 0, 17, 43, 28, 182, 0, 20, 153, 0, 7, 4, 167, 0, 4, 3, 172]
abbrev dktX17_is_2 : List UInt8 := dkwX17_is_2 ++ []
def dkwX17_is_1 : List UInt8 := [28, 182, 0, 20, 153, 0, 7, 4, 167, 0, 36, 3, 167, 0, 32, 42, 180, 0, 13, 43, 28, 182, 0, 20]
abbrev dktX17_is_1 : List UInt8 := dkwX17_is_1 ++ dktX17_is_2
def dkwX17_is_0 : List UInt8 := [42, 180, 0, 7, 153, 0, 35, 42, 180, 0, 13, 43, 28, 182, 0, 20, 153, 0, 19, 42, 180, 0, 17, 43]
abbrev dktX17_is_0 : List UInt8 := dkwX17_is_0 ++ dktX17_is_1
theorem dksX17_is_0 : cX17_is.data.toList.drop 0 = dktX17_is_0 := by decide +kernel
theorem dksX17_is_1 : cX17_is.data.toList.drop 24 = dktX17_is_1 := dk_seg dksX17_is_0 24 rfl rfl
theorem dksX17_is_2 : cX17_is.data.toList.drop 48 = dktX17_is_2 := dk_seg dksX17_is_1 24 rfl rfl
theorem dX17_is_0 : decode cX17_is 0 = .ok (.aload_n 0, 1) := dk_42 (dk_at dksX17_is_0 0 rfl rfl)
theorem dX17_is_1 : decode cX17_is 1 = .ok (.getfield 7, 3) := dk_180 0 7 (dk_at dksX17_is_0 1 rfl rfl)
theorem dX17_is_4 : decode cX17_is 4 = .ok (.ifCond .eq 35, 3) := dk_153 0 35 (dk_at dksX17_is_0 4 rfl rfl)
theorem dX17_is_7 : decode cX17_is 7 = .ok (.aload_n 0, 1) := dk_42 (dk_at dksX17_is_0 7 rfl rfl)
theorem dX17_is_8 : decode cX17_is 8 = .ok (.getfield 13, 3) := dk_180 0 13 (dk_at dksX17_is_0 8 rfl rfl)
theorem dX17_is_11 : decode cX17_is 11 = .ok (.aload_n 1, 1) := dk_43 (dk_at dksX17_is_0 11 rfl rfl)
theorem dX17_is_12 : decode cX17_is 12 = .ok (.iload_n 2, 1) := dk_28 (dk_at dksX17_is_0 12 rfl rfl)
theorem dX17_is_13 : decode cX17_is 13 = .ok (.invokevirtual 20, 3) := dk_182 0 20 (dk_at dksX17_is_0 13 rfl rfl)
theorem dX17_is_16 : decode cX17_is 16 = .ok (.ifCond .eq 19, 3) := dk_153 0 19 (dk_at dksX17_is_0 16 rfl rfl)
theorem dX17_is_19 : decode cX17_is 19 = .ok (.aload_n 0, 1) := dk_42 (dk_at dksX17_is_0 19 rfl rfl)
theorem dX17_is_20 : decode cX17_is 20 = .ok (.getfield 17, 3) := dk_180 0 17 (dk_at dksX17_is_0 20 rfl rfl)
theorem dX17_is_23 : decode cX17_is 23 = .ok (.aload_n 1, 1) := dk_43 (dk_at dksX17_is_0 23 rfl rfl)
theorem dX17_is_24 : decode cX17_is 24 = .ok (.iload_n 2, 1) := dk_28 (dk_at dksX17_is_1 0 rfl rfl)
theorem dX17_is_25 : decode cX17_is 25 = .ok (.invokevirtual 20, 3) := dk_182 0 20 (dk_at dksX17_is_1 1 rfl rfl)
theorem dX17_is_28 : decode cX17_is 28 = .ok (.ifCond .eq 7, 3) := dk_153 0 7 (dk_at dksX17_is_1 4 rfl rfl)
theorem dX17_is_31 : decode cX17_is 31 = .ok (.iconst 1, 1) := dk_4 (dk_at dksX17_is_1 7 rfl rfl)
theorem dX17_is_32 : decode cX17_is 32 = .ok (.goto 36, 3) := dk_167 0 36 (dk_at dksX17_is_1 8 rfl rfl)
theorem dX17_is_35 : decode cX17_is 35 = .ok (.iconst 0, 1) := dk_3 (dk_at dksX17_is_1 11 rfl rfl)
theorem dX17_is_36 : decode cX17_is 36 = .ok (.goto 32, 3) := dk_167 0 32 (dk_at dksX17_is_1 12 rfl rfl)
theorem dX17_is_39 : decode cX17_is 39 = .ok (.aload_n 0, 1) := dk_42 (dk_at dksX17_is_1 15 rfl rfl)
theorem dX17_is_40 : decode cX17_is 40 = .ok (.getfield 13, 3) := dk_180 0 13 (dk_at dksX17_is_1 16 rfl rfl)
theorem dX17_is_43 : decode cX17_is 43 = .ok (.aload_n 1, 1) := dk_43 (dk_at dksX17_is_1 19 rfl rfl)
theorem dX17_is_44 : decode cX17_is 44 = .ok (.iload_n 2, 1) := dk_28 (dk_at dksX17_is_1 20 rfl rfl)
theorem dX17_is_45 : decode cX17_is 45 = .ok (.invokevirtual 20, 3) := dk_182 0 20 (dk_at dksX17_is_1 21 rfl rfl)
theorem dX17_is_48 : decode cX17_is 48 = .ok (.ifCond .ne 15, 3) := dk_154 0 15 (dk_at dksX17_is_2 0 rfl rfl)
theorem dX17_is_51 : decode cX17_is 51 = .ok (.aload_n 0, 1) := dk_42 (dk_at dksX17_is_2 3 rfl rfl)
theorem dX17_is_52 : decode cX17_is 52 = .ok (.getfield 17, 3) := dk_180 0 17 (dk_at dksX17_is_2 4 rfl rfl)
theorem dX17_is_55 : decode cX17_is 55 = .ok (.aload_n 1, 1) := dk_43 (dk_at dksX17_is_2 7 rfl rfl)
theorem dX17_is_56 : decode cX17_is 56 = .ok (.iload_n 2, 1) := dk_28 (dk_at dksX17_is_2 8 rfl rfl)
theorem dX17_is_57 : decode cX17_is 57 = .ok (.invokevirtual 20, 3) := dk_182 0 20 (dk_at dksX17_is_2 9 rfl rfl)
theorem dX17_is_60 : decode cX17_is 60 = .ok (.ifCond .eq 7, 3) := dk_153 0 7 (dk_at dksX17_is_2 12 rfl rfl)
theorem dX17_is_63 : decode cX17_is 63 = .ok (.iconst 1, 1) := dk_4 (dk_at dksX17_is_2 15 rfl rfl)
theorem dX17_is_64 : decode cX17_is 64 = .ok (.goto 4, 3) := dk_167 0 4 (dk_at dksX17_is_2 16 rfl rfl)
theorem dX17_is_67 : decode cX17_is 67 = .ok (.iconst 0, 1) := dk_3 (dk_at dksX17_is_2 19 rfl rfl)
theorem dX17_is_68 : decode cX17_is 68 = .ok (.ireturn, 1) := dk_172 (dk_at dksX17_is_2 20 rfl rfl)
theorem q153 : (Jvm.Cond.initialized "FootOut$Both") ∈ lw_all := lw_g (lw_at lw_m1 30 rfl) rfl
theorem q680 : (Jvm.Cond.selects "FootOut$Both" ({ cls := "java/lang/Object", name := "getClass", desc := "()Ljava/lang/Class;" } : Jvm.MethodName) ({ cls := "java/lang/Object", name := "getClass", desc := "()Ljava/lang/Class;" } : Jvm.MethodName)) ∈ lw_all := lw_g (lw_at lw_m3 77 rfl) rfl
theorem q857 : (Jvm.Cond.instantiable "FootOut$Both" (3 : Nat)) ∈ lw_all := lw_g (lw_at lw_m4 14 rfl) rfl
theorem q859 : (Jvm.Cond.instanceMethod ({ cls := "FootOut$Both", name := "<init>", desc := "(ZLFootOut$Fact;LFootOut$Fact;)V" } : Jvm.MethodName)) ∈ lw_all := lw_g (lw_at lw_m4 16 rfl) rfl
theorem q860 : (Jvm.Cond.code ({ cls := "FootOut$Both", name := "<init>", desc := "(ZLFootOut$Fact;LFootOut$Fact;)V" } : Jvm.MethodName) prog_4_method_1_code (4 : Nat) (Option.none : Option Jvm.ClassFile.FieldType)) ∈ lw_all := lw_g (lw_at lw_m4 17 rfl) rfl
theorem q861 : (Jvm.Cond.methodLinkNest "FootOut$Both" (1 : Nat) ({ cls := "FootOut$Fact", name := "<init>", desc := "()V" } : Jvm.MethodName) "FootOut") ∈ lw_tbl := lw_at lw_m4 18 rfl
theorem q862 : (Jvm.Cond.fieldLink "FootOut$Both" (7 : Nat) "FootOut$Both" "isAnd" "Z") ∈ lw_all := lw_g (lw_at lw_m4 19 rfl) rfl
theorem q863 : (Jvm.Cond.fieldLink "FootOut$Both" (13 : Nat) "FootOut$Both" "one" "LFootOut$Fact;") ∈ lw_all := lw_g (lw_at lw_m4 20 rfl) rfl
theorem q864 : (Jvm.Cond.fieldLink "FootOut$Both" (17 : Nat) "FootOut$Both" "two" "LFootOut$Fact;") ∈ lw_all := lw_g (lw_at lw_m4 21 rfl) rfl
theorem q865 : (Jvm.Cond.laysFinal "FootOut$Both" "FootOut$Both" "isAnd" "Z") ∈ lw_all := lw_g (lw_at lw_m4 22 rfl) rfl
theorem q866 : (Jvm.Cond.soleField "FootOut$Both" "isAnd") ∈ lw_all := lw_g (lw_at lw_m4 23 rfl) rfl
theorem q867 : (Jvm.Cond.laysFinal "FootOut$Both" "FootOut$Both" "one" "LFootOut$Fact;") ∈ lw_all := lw_g (lw_at lw_m4 24 rfl) rfl
theorem q868 : (Jvm.Cond.soleField "FootOut$Both" "one") ∈ lw_all := lw_g (lw_at lw_m4 25 rfl) rfl
theorem q869 : (Jvm.Cond.laysFinal "FootOut$Both" "FootOut$Both" "two" "LFootOut$Fact;") ∈ lw_all := lw_g (lw_at lw_m4 26 rfl) rfl
theorem q870 : (Jvm.Cond.soleField "FootOut$Both" "two") ∈ lw_all := lw_g (lw_at lw_m4 27 rfl) rfl
theorem q871 : (Jvm.Cond.superclass "FootOut$Both" "FootOut$Fact") ∈ lw_all := lw_g (lw_at lw_m4 28 rfl) rfl
theorem q988 : (Jvm.Cond.selects "FootOut$Both" ({ cls := "FootOut$Fact", name := "is", desc := "(LFootOut$Walk;I)Z" } : Jvm.MethodName) ({ cls := "FootOut$Both", name := "is", desc := "(LFootOut$Walk;I)Z" } : Jvm.MethodName)) ∈ lw_all := lw_g (lw_at lw_m4 145 rfl) rfl
theorem q989 : (Jvm.Cond.instanceMethod ({ cls := "FootOut$Both", name := "is", desc := "(LFootOut$Walk;I)Z" } : Jvm.MethodName)) ∈ lw_all := lw_g (lw_at lw_m4 146 rfl) rfl
theorem q990 : (Jvm.Cond.code ({ cls := "FootOut$Both", name := "is", desc := "(LFootOut$Walk;I)Z" } : Jvm.MethodName) prog_4_method_2_code (3 : Nat) (Option.some Jvm.ClassFile.FieldType.boolean)) ∈ lw_all := lw_g (lw_at lw_m4 147 rfl) rfl
theorem q991 : (Jvm.Cond.methodLink "FootOut$Both" (20 : Nat) ({ cls := "FootOut$Fact", name := "is", desc := "(LFootOut$Walk;I)Z" } : Jvm.MethodName)) ∈ lw_all := lw_g (lw_at lw_m4 148 rfl) rfl
theorem q2222 : (Jvm.Cond.castable "FootOut$Both" "java/lang/Object") ∈ lw_tbl := lw_at lw_m9 179 rfl
theorem in_X17 : ∀ w ∈ wsX170, w ∈ lw_all := lw_in wsX170 [865, 867, 869] (by decide +kernel) (by decide +kernel)

/-! FootOut$Stop -/
set_option maxRecDepth 100000
def RX18 : String := "FootOut$Stop"
def TX18 : u_T := fun k => match k with
  | 0 => ("FootOut$Stop", "hundredths", "I", true)
  | _ => ("FootOut$Stop", "when", "LFootOut$Fact;", true)
def tyX18 : Nat → FieldType := fun k => match k with
  | 0 => .int
  | _ => .object "FootOut$Fact"
abbrev wsX180 : List Cond := u_ws RX18 TX18 2
theorem nmX18 : ∀ a, a < 2 → ∀ b, b < 2 → a ≠ b → (TX18 a).2.1 ≠ (TX18 b).2.1 := by decide +kernel
theorem tyX18_ok : ∀ k, k < 2 → parseFieldDescriptor (TX18 k).2.2.1 = some (tyX18 k) := by decide +kernel
abbrev cX18_init : ByteArray := prog_17_method_1_code
def yX18_init : MethodName := ⟨RX18, "<init>", "(ILFootOut$Fact;)V"⟩
def dkwX18_init_0 : List UInt8 := [42, 183, 0, 1, 42, 27, 181, 0, 7, 42, 44, 181, 0, 13, 177]
abbrev dktX18_init_0 : List UInt8 := dkwX18_init_0 ++ []
theorem dksX18_init_0 : cX18_init.data.toList.drop 0 = dktX18_init_0 := by decide +kernel
theorem dX18_init_0 : decode cX18_init 0 = .ok (.aload_n 0, 1) := dk_42 (dk_at dksX18_init_0 0 rfl rfl)
theorem dX18_init_1 : decode cX18_init 1 = .ok (.invokespecial 1, 3) := dk_183 0 1 (dk_at dksX18_init_0 1 rfl rfl)
theorem dX18_init_4 : decode cX18_init 4 = .ok (.aload_n 0, 1) := dk_42 (dk_at dksX18_init_0 4 rfl rfl)
theorem dX18_init_5 : decode cX18_init 5 = .ok (.iload_n 1, 1) := dk_27 (dk_at dksX18_init_0 5 rfl rfl)
theorem dX18_init_6 : decode cX18_init 6 = .ok (.putfield 7, 3) := dk_181 0 7 (dk_at dksX18_init_0 6 rfl rfl)
theorem dX18_init_9 : decode cX18_init 9 = .ok (.aload_n 0, 1) := dk_42 (dk_at dksX18_init_0 9 rfl rfl)
theorem dX18_init_10 : decode cX18_init 10 = .ok (.aload_n 2, 1) := dk_44 (dk_at dksX18_init_0 10 rfl rfl)
theorem dX18_init_11 : decode cX18_init 11 = .ok (.putfield 13, 3) := dk_181 0 13 (dk_at dksX18_init_0 11 rfl rfl)
theorem dX18_init_14 : decode cX18_init 14 = .ok (.return_, 1) := dk_177 (dk_at dksX18_init_0 14 rfl rfl)
theorem q154 : (Jvm.Cond.initialized "FootOut$Stop") ∈ lw_all := lw_g (lw_at lw_m1 31 rfl) rfl
theorem q691 : (Jvm.Cond.selects "FootOut$Stop" ({ cls := "java/lang/Object", name := "getClass", desc := "()Ljava/lang/Class;" } : Jvm.MethodName) ({ cls := "java/lang/Object", name := "getClass", desc := "()Ljava/lang/Class;" } : Jvm.MethodName)) ∈ lw_all := lw_g (lw_at lw_m3 88 rfl) rfl
theorem q874 : (Jvm.Cond.instantiable "FootOut$Stop" (2 : Nat)) ∈ lw_all := lw_g (lw_at lw_m4 31 rfl) rfl
theorem q876 : (Jvm.Cond.instanceMethod ({ cls := "FootOut$Stop", name := "<init>", desc := "(ILFootOut$Fact;)V" } : Jvm.MethodName)) ∈ lw_all := lw_g (lw_at lw_m4 33 rfl) rfl
theorem q877 : (Jvm.Cond.code ({ cls := "FootOut$Stop", name := "<init>", desc := "(ILFootOut$Fact;)V" } : Jvm.MethodName) prog_17_method_1_code (3 : Nat) (Option.none : Option Jvm.ClassFile.FieldType)) ∈ lw_all := lw_g (lw_at lw_m4 34 rfl) rfl
theorem q878 : (Jvm.Cond.methodLink "FootOut$Stop" (1 : Nat) ({ cls := "java/lang/Object", name := "<init>", desc := "()V" } : Jvm.MethodName)) ∈ lw_all := lw_g (lw_at lw_m4 35 rfl) rfl
theorem q879 : (Jvm.Cond.fieldLink "FootOut$Stop" (7 : Nat) "FootOut$Stop" "hundredths" "I") ∈ lw_all := lw_g (lw_at lw_m4 36 rfl) rfl
theorem q881 : (Jvm.Cond.fieldLink "FootOut$Stop" (13 : Nat) "FootOut$Stop" "when" "LFootOut$Fact;") ∈ lw_all := lw_g (lw_at lw_m4 38 rfl) rfl
theorem q883 : (Jvm.Cond.laysFinal "FootOut$Stop" "FootOut$Stop" "hundredths" "I") ∈ lw_all := lw_g (lw_at lw_m4 40 rfl) rfl
theorem q884 : (Jvm.Cond.soleField "FootOut$Stop" "hundredths") ∈ lw_all := lw_g (lw_at lw_m4 41 rfl) rfl
theorem q885 : (Jvm.Cond.laysFinal "FootOut$Stop" "FootOut$Stop" "when" "LFootOut$Fact;") ∈ lw_all := lw_g (lw_at lw_m4 42 rfl) rfl
theorem q886 : (Jvm.Cond.soleField "FootOut$Stop" "when") ∈ lw_all := lw_g (lw_at lw_m4 43 rfl) rfl
theorem q887 : (Jvm.Cond.superclass "FootOut$Stop" "java/lang/Object") ∈ lw_all := lw_g (lw_at lw_m4 44 rfl) rfl
theorem q2223 : (Jvm.Cond.castable "FootOut$Stop" "java/lang/Object") ∈ lw_tbl := lw_at lw_m9 180 rfl
theorem in_X18 : ∀ w ∈ wsX180, w ∈ lw_all := lw_in wsX180 [883, 885] (by decide +kernel) (by decide +kernel)

/-! FootOut$Place -/
set_option maxRecDepth 100000
def RX19 : String := "FootOut$Place"
def TX19 : u_T := fun k => match k with
  | 0 => ("FootOut$Place", "isPainted", "Z", true)
  | 1 => ("FootOut$Place", "crossing", "[I", true)
  | 2 => ("FootOut$Place", "hurt", "[I", true)
  | _ => ("FootOut$Place", "behind", "I", false)
def tyX19 : Nat → FieldType := fun k => match k with
  | 0 => .boolean
  | 1 => .array .int
  | 2 => .array .int
  | _ => .int
abbrev wsX190 : List Cond := u_ws RX19 TX19 4
theorem nmX19 : ∀ a, a < 4 → ∀ b, b < 4 → a ≠ b → (TX19 a).2.1 ≠ (TX19 b).2.1 := by decide +kernel
theorem tyX19_ok : ∀ k, k < 4 → parseFieldDescriptor (TX19 k).2.2.1 = some (tyX19 k) := by decide +kernel
abbrev cX19_init : ByteArray := prog_12_method_1_code
def yX19_init : MethodName := ⟨RX19, "<init>", "(ZIIII)V"⟩
def dkwX19_init_1 : List UInt8 := [42, 5, 188, 10, 89, 3, 21, 4, 79, 89, 4, 21, 5, 79, 181, 0, 17, 177]
abbrev dktX19_init_1 : List UInt8 := dkwX19_init_1 ++ []
def dkwX19_init_0 : List UInt8 := [42, 183, 0, 1, 42, 27, 181, 0, 7, 42, 5, 188, 10, 89, 3, 28, 79, 89, 4, 29, 79, 181, 0, 13]
abbrev dktX19_init_0 : List UInt8 := dkwX19_init_0 ++ dktX19_init_1
theorem dksX19_init_0 : cX19_init.data.toList.drop 0 = dktX19_init_0 := by decide +kernel
theorem dksX19_init_1 : cX19_init.data.toList.drop 24 = dktX19_init_1 := dk_seg dksX19_init_0 24 rfl rfl
theorem dX19_init_0 : decode cX19_init 0 = .ok (.aload_n 0, 1) := dk_42 (dk_at dksX19_init_0 0 rfl rfl)
theorem dX19_init_1 : decode cX19_init 1 = .ok (.invokespecial 1, 3) := dk_183 0 1 (dk_at dksX19_init_0 1 rfl rfl)
theorem dX19_init_4 : decode cX19_init 4 = .ok (.aload_n 0, 1) := dk_42 (dk_at dksX19_init_0 4 rfl rfl)
theorem dX19_init_5 : decode cX19_init 5 = .ok (.iload_n 1, 1) := dk_27 (dk_at dksX19_init_0 5 rfl rfl)
theorem dX19_init_6 : decode cX19_init 6 = .ok (.putfield 7, 3) := dk_181 0 7 (dk_at dksX19_init_0 6 rfl rfl)
theorem dX19_init_9 : decode cX19_init 9 = .ok (.aload_n 0, 1) := dk_42 (dk_at dksX19_init_0 9 rfl rfl)
theorem dX19_init_10 : decode cX19_init 10 = .ok (.iconst 2, 1) := dk_5 (dk_at dksX19_init_0 10 rfl rfl)
theorem dX19_init_11 : decode cX19_init 11 = .ok (.newarray .int, 2) := dk_188_10 (dk_at dksX19_init_0 11 rfl rfl)
theorem dX19_init_13 : decode cX19_init 13 = .ok (.dup, 1) := dk_89 (dk_at dksX19_init_0 13 rfl rfl)
theorem dX19_init_14 : decode cX19_init 14 = .ok (.iconst 0, 1) := dk_3 (dk_at dksX19_init_0 14 rfl rfl)
theorem dX19_init_15 : decode cX19_init 15 = .ok (.iload_n 2, 1) := dk_28 (dk_at dksX19_init_0 15 rfl rfl)
theorem dX19_init_16 : decode cX19_init 16 = .ok (.iastore, 1) := dk_79 (dk_at dksX19_init_0 16 rfl rfl)
theorem dX19_init_17 : decode cX19_init 17 = .ok (.dup, 1) := dk_89 (dk_at dksX19_init_0 17 rfl rfl)
theorem dX19_init_18 : decode cX19_init 18 = .ok (.iconst 1, 1) := dk_4 (dk_at dksX19_init_0 18 rfl rfl)
theorem dX19_init_19 : decode cX19_init 19 = .ok (.iload_n 3, 1) := dk_29 (dk_at dksX19_init_0 19 rfl rfl)
theorem dX19_init_20 : decode cX19_init 20 = .ok (.iastore, 1) := dk_79 (dk_at dksX19_init_0 20 rfl rfl)
theorem dX19_init_21 : decode cX19_init 21 = .ok (.putfield 13, 3) := dk_181 0 13 (dk_at dksX19_init_0 21 rfl rfl)
theorem dX19_init_24 : decode cX19_init 24 = .ok (.aload_n 0, 1) := dk_42 (dk_at dksX19_init_1 0 rfl rfl)
theorem dX19_init_25 : decode cX19_init 25 = .ok (.iconst 2, 1) := dk_5 (dk_at dksX19_init_1 1 rfl rfl)
theorem dX19_init_26 : decode cX19_init 26 = .ok (.newarray .int, 2) := dk_188_10 (dk_at dksX19_init_1 2 rfl rfl)
theorem dX19_init_28 : decode cX19_init 28 = .ok (.dup, 1) := dk_89 (dk_at dksX19_init_1 4 rfl rfl)
theorem dX19_init_29 : decode cX19_init 29 = .ok (.iconst 0, 1) := dk_3 (dk_at dksX19_init_1 5 rfl rfl)
theorem dX19_init_30 : decode cX19_init 30 = .ok (.iload 4, 2) := dk_21 4 (dk_at dksX19_init_1 6 rfl rfl)
theorem dX19_init_32 : decode cX19_init 32 = .ok (.iastore, 1) := dk_79 (dk_at dksX19_init_1 8 rfl rfl)
theorem dX19_init_33 : decode cX19_init 33 = .ok (.dup, 1) := dk_89 (dk_at dksX19_init_1 9 rfl rfl)
theorem dX19_init_34 : decode cX19_init 34 = .ok (.iconst 1, 1) := dk_4 (dk_at dksX19_init_1 10 rfl rfl)
theorem dX19_init_35 : decode cX19_init 35 = .ok (.iload 5, 2) := dk_21 5 (dk_at dksX19_init_1 11 rfl rfl)
theorem dX19_init_37 : decode cX19_init 37 = .ok (.iastore, 1) := dk_79 (dk_at dksX19_init_1 13 rfl rfl)
theorem dX19_init_38 : decode cX19_init 38 = .ok (.putfield 17, 3) := dk_181 0 17 (dk_at dksX19_init_1 14 rfl rfl)
theorem dX19_init_41 : decode cX19_init 41 = .ok (.return_, 1) := dk_177 (dk_at dksX19_init_1 17 rfl rfl)
abbrev cX19_hurt : ByteArray := prog_12_method_2_code
def yX19_hurt : MethodName := ⟨RX19, "hurt", "()I"⟩
def dkwX19_hurt_0 : List UInt8 := [42, 180, 0, 17, 3, 46, 42, 180, 0, 17, 4, 46, 96, 172]
abbrev dktX19_hurt_0 : List UInt8 := dkwX19_hurt_0 ++ []
theorem dksX19_hurt_0 : cX19_hurt.data.toList.drop 0 = dktX19_hurt_0 := by decide +kernel
theorem dX19_hurt_0 : decode cX19_hurt 0 = .ok (.aload_n 0, 1) := dk_42 (dk_at dksX19_hurt_0 0 rfl rfl)
theorem dX19_hurt_1 : decode cX19_hurt 1 = .ok (.getfield 17, 3) := dk_180 0 17 (dk_at dksX19_hurt_0 1 rfl rfl)
theorem dX19_hurt_4 : decode cX19_hurt 4 = .ok (.iconst 0, 1) := dk_3 (dk_at dksX19_hurt_0 4 rfl rfl)
theorem dX19_hurt_5 : decode cX19_hurt 5 = .ok (.iaload, 1) := dk_46 (dk_at dksX19_hurt_0 5 rfl rfl)
theorem dX19_hurt_6 : decode cX19_hurt 6 = .ok (.aload_n 0, 1) := dk_42 (dk_at dksX19_hurt_0 6 rfl rfl)
theorem dX19_hurt_7 : decode cX19_hurt 7 = .ok (.getfield 17, 3) := dk_180 0 17 (dk_at dksX19_hurt_0 7 rfl rfl)
theorem dX19_hurt_10 : decode cX19_hurt 10 = .ok (.iconst 1, 1) := dk_4 (dk_at dksX19_hurt_0 10 rfl rfl)
theorem dX19_hurt_11 : decode cX19_hurt 11 = .ok (.iaload, 1) := dk_46 (dk_at dksX19_hurt_0 11 rfl rfl)
theorem dX19_hurt_12 : decode cX19_hurt 12 = .ok (.iadd, 1) := dk_96 (dk_at dksX19_hurt_0 12 rfl rfl)
theorem dX19_hurt_13 : decode cX19_hurt 13 = .ok (.ireturn, 1) := dk_172 (dk_at dksX19_hurt_0 13 rfl rfl)
abbrev cX19_crossing : ByteArray := prog_12_method_3_code
def yX19_crossing : MethodName := ⟨RX19, "crossing", "()I"⟩
def dkwX19_crossing_0 : List UInt8 := [42, 180, 0, 13, 3, 46, 42, 180, 0, 13, 4, 46, 96, 172]
abbrev dktX19_crossing_0 : List UInt8 := dkwX19_crossing_0 ++ []
theorem dksX19_crossing_0 : cX19_crossing.data.toList.drop 0 = dktX19_crossing_0 := by decide +kernel
theorem dX19_crossing_0 : decode cX19_crossing 0 = .ok (.aload_n 0, 1) := dk_42 (dk_at dksX19_crossing_0 0 rfl rfl)
theorem dX19_crossing_1 : decode cX19_crossing 1 = .ok (.getfield 13, 3) := dk_180 0 13 (dk_at dksX19_crossing_0 1 rfl rfl)
theorem dX19_crossing_4 : decode cX19_crossing 4 = .ok (.iconst 0, 1) := dk_3 (dk_at dksX19_crossing_0 4 rfl rfl)
theorem dX19_crossing_5 : decode cX19_crossing 5 = .ok (.iaload, 1) := dk_46 (dk_at dksX19_crossing_0 5 rfl rfl)
theorem dX19_crossing_6 : decode cX19_crossing 6 = .ok (.aload_n 0, 1) := dk_42 (dk_at dksX19_crossing_0 6 rfl rfl)
theorem dX19_crossing_7 : decode cX19_crossing 7 = .ok (.getfield 13, 3) := dk_180 0 13 (dk_at dksX19_crossing_0 7 rfl rfl)
theorem dX19_crossing_10 : decode cX19_crossing 10 = .ok (.iconst 1, 1) := dk_4 (dk_at dksX19_crossing_0 10 rfl rfl)
theorem dX19_crossing_11 : decode cX19_crossing 11 = .ok (.iaload, 1) := dk_46 (dk_at dksX19_crossing_0 11 rfl rfl)
theorem dX19_crossing_12 : decode cX19_crossing 12 = .ok (.iadd, 1) := dk_96 (dk_at dksX19_crossing_0 12 rfl rfl)
theorem dX19_crossing_13 : decode cX19_crossing 13 = .ok (.ireturn, 1) := dk_172 (dk_at dksX19_crossing_0 13 rfl rfl)
abbrev cX19_fall : ByteArray := prog_12_method_4_code
def yX19_fall : MethodName := ⟨RX19, "fall", "()I"⟩
def dkwX19_fall_0 : List UInt8 := [42, 182, 0, 20, 42, 180, 0, 23, 100, 172]
abbrev dktX19_fall_0 : List UInt8 := dkwX19_fall_0 ++ []
theorem dksX19_fall_0 : cX19_fall.data.toList.drop 0 = dktX19_fall_0 := by decide +kernel
theorem dX19_fall_0 : decode cX19_fall 0 = .ok (.aload_n 0, 1) := dk_42 (dk_at dksX19_fall_0 0 rfl rfl)
theorem dX19_fall_1 : decode cX19_fall 1 = .ok (.invokevirtual 20, 3) := dk_182 0 20 (dk_at dksX19_fall_0 1 rfl rfl)
theorem dX19_fall_4 : decode cX19_fall 4 = .ok (.aload_n 0, 1) := dk_42 (dk_at dksX19_fall_0 4 rfl rfl)
theorem dX19_fall_5 : decode cX19_fall 5 = .ok (.getfield 23, 3) := dk_180 0 23 (dk_at dksX19_fall_0 5 rfl rfl)
theorem dX19_fall_8 : decode cX19_fall 8 = .ok (.isub, 1) := dk_100 (dk_at dksX19_fall_0 8 rfl rfl)
theorem dX19_fall_9 : decode cX19_fall 9 = .ok (.ireturn, 1) := dk_172 (dk_at dksX19_fall_0 9 rfl rfl)
abbrev cX19_copy : ByteArray := prog_12_method_5_code
def yX19_copy : MethodName := ⟨RX19, "copy", "()LFootOut$Place;"⟩
def dkwX19_copy_1 : List UInt8 := [3, 46, 42, 180, 0, 17, 4, 46, 183, 0, 27, 76, 43, 42, 180, 0, 23, 181, 0, 23, 43, 176]
abbrev dktX19_copy_1 : List UInt8 := dkwX19_copy_1 ++ []
def dkwX19_copy_0 : List UInt8 := [187, 0, 8, 89, 42, 180, 0, 7, 42, 180, 0, 13, 3, 46, 42, 180, 0, 13, 4, 46, 42, 180, 0, 17]
abbrev dktX19_copy_0 : List UInt8 := dkwX19_copy_0 ++ dktX19_copy_1
theorem dksX19_copy_0 : cX19_copy.data.toList.drop 0 = dktX19_copy_0 := by decide +kernel
theorem dksX19_copy_1 : cX19_copy.data.toList.drop 24 = dktX19_copy_1 := dk_seg dksX19_copy_0 24 rfl rfl
theorem dX19_copy_0 : decode cX19_copy 0 = .ok (.new 8, 3) := dk_187 0 8 (dk_at dksX19_copy_0 0 rfl rfl)
theorem dX19_copy_3 : decode cX19_copy 3 = .ok (.dup, 1) := dk_89 (dk_at dksX19_copy_0 3 rfl rfl)
theorem dX19_copy_4 : decode cX19_copy 4 = .ok (.aload_n 0, 1) := dk_42 (dk_at dksX19_copy_0 4 rfl rfl)
theorem dX19_copy_5 : decode cX19_copy 5 = .ok (.getfield 7, 3) := dk_180 0 7 (dk_at dksX19_copy_0 5 rfl rfl)
theorem dX19_copy_8 : decode cX19_copy 8 = .ok (.aload_n 0, 1) := dk_42 (dk_at dksX19_copy_0 8 rfl rfl)
theorem dX19_copy_9 : decode cX19_copy 9 = .ok (.getfield 13, 3) := dk_180 0 13 (dk_at dksX19_copy_0 9 rfl rfl)
theorem dX19_copy_12 : decode cX19_copy 12 = .ok (.iconst 0, 1) := dk_3 (dk_at dksX19_copy_0 12 rfl rfl)
theorem dX19_copy_13 : decode cX19_copy 13 = .ok (.iaload, 1) := dk_46 (dk_at dksX19_copy_0 13 rfl rfl)
theorem dX19_copy_14 : decode cX19_copy 14 = .ok (.aload_n 0, 1) := dk_42 (dk_at dksX19_copy_0 14 rfl rfl)
theorem dX19_copy_15 : decode cX19_copy 15 = .ok (.getfield 13, 3) := dk_180 0 13 (dk_at dksX19_copy_0 15 rfl rfl)
theorem dX19_copy_18 : decode cX19_copy 18 = .ok (.iconst 1, 1) := dk_4 (dk_at dksX19_copy_0 18 rfl rfl)
theorem dX19_copy_19 : decode cX19_copy 19 = .ok (.iaload, 1) := dk_46 (dk_at dksX19_copy_0 19 rfl rfl)
theorem dX19_copy_20 : decode cX19_copy 20 = .ok (.aload_n 0, 1) := dk_42 (dk_at dksX19_copy_0 20 rfl rfl)
theorem dX19_copy_21 : decode cX19_copy 21 = .ok (.getfield 17, 3) := dk_180 0 17 (dk_at dksX19_copy_0 21 rfl rfl)
theorem dX19_copy_24 : decode cX19_copy 24 = .ok (.iconst 0, 1) := dk_3 (dk_at dksX19_copy_1 0 rfl rfl)
theorem dX19_copy_25 : decode cX19_copy 25 = .ok (.iaload, 1) := dk_46 (dk_at dksX19_copy_1 1 rfl rfl)
theorem dX19_copy_26 : decode cX19_copy 26 = .ok (.aload_n 0, 1) := dk_42 (dk_at dksX19_copy_1 2 rfl rfl)
theorem dX19_copy_27 : decode cX19_copy 27 = .ok (.getfield 17, 3) := dk_180 0 17 (dk_at dksX19_copy_1 3 rfl rfl)
theorem dX19_copy_30 : decode cX19_copy 30 = .ok (.iconst 1, 1) := dk_4 (dk_at dksX19_copy_1 6 rfl rfl)
theorem dX19_copy_31 : decode cX19_copy 31 = .ok (.iaload, 1) := dk_46 (dk_at dksX19_copy_1 7 rfl rfl)
theorem dX19_copy_32 : decode cX19_copy 32 = .ok (.invokespecial 27, 3) := dk_183 0 27 (dk_at dksX19_copy_1 8 rfl rfl)
theorem dX19_copy_35 : decode cX19_copy 35 = .ok (.astore_n 1, 1) := dk_76 (dk_at dksX19_copy_1 11 rfl rfl)
theorem dX19_copy_36 : decode cX19_copy 36 = .ok (.aload_n 1, 1) := dk_43 (dk_at dksX19_copy_1 12 rfl rfl)
theorem dX19_copy_37 : decode cX19_copy 37 = .ok (.aload_n 0, 1) := dk_42 (dk_at dksX19_copy_1 13 rfl rfl)
theorem dX19_copy_38 : decode cX19_copy 38 = .ok (.getfield 23, 3) := dk_180 0 23 (dk_at dksX19_copy_1 14 rfl rfl)
theorem dX19_copy_41 : decode cX19_copy 41 = .ok (.putfield 23, 3) := dk_181 0 23 (dk_at dksX19_copy_1 17 rfl rfl)
theorem dX19_copy_44 : decode cX19_copy 44 = .ok (.aload_n 1, 1) := dk_43 (dk_at dksX19_copy_1 20 rfl rfl)
theorem dX19_copy_45 : decode cX19_copy 45 = .ok (.areturn, 1) := dk_176 (dk_at dksX19_copy_1 21 rfl rfl)
theorem q156 : (Jvm.Cond.initialized "FootOut$Place") ∈ lw_all := lw_g (lw_at lw_m1 33 rfl) rfl
theorem q687 : (Jvm.Cond.selects "FootOut$Place" ({ cls := "java/lang/Object", name := "getClass", desc := "()Ljava/lang/Class;" } : Jvm.MethodName) ({ cls := "java/lang/Object", name := "getClass", desc := "()Ljava/lang/Class;" } : Jvm.MethodName)) ∈ lw_all := lw_g (lw_at lw_m3 84 rfl) rfl
theorem q1199 : (Jvm.Cond.instantiable "FootOut$Place" (4 : Nat)) ∈ lw_all := lw_g (lw_at lw_m5 116 rfl) rfl
theorem q1201 : (Jvm.Cond.instanceMethod ({ cls := "FootOut$Place", name := "<init>", desc := "(ZIIII)V" } : Jvm.MethodName)) ∈ lw_all := lw_g (lw_at lw_m5 118 rfl) rfl
theorem q1202 : (Jvm.Cond.code ({ cls := "FootOut$Place", name := "<init>", desc := "(ZIIII)V" } : Jvm.MethodName) prog_12_method_1_code (6 : Nat) (Option.none : Option Jvm.ClassFile.FieldType)) ∈ lw_all := lw_g (lw_at lw_m5 119 rfl) rfl
theorem q1203 : (Jvm.Cond.methodLink "FootOut$Place" (1 : Nat) ({ cls := "java/lang/Object", name := "<init>", desc := "()V" } : Jvm.MethodName)) ∈ lw_all := lw_g (lw_at lw_m5 120 rfl) rfl
theorem q1204 : (Jvm.Cond.fieldLink "FootOut$Place" (7 : Nat) "FootOut$Place" "isPainted" "Z") ∈ lw_all := lw_g (lw_at lw_m5 121 rfl) rfl
theorem q1206 : (Jvm.Cond.fieldLink "FootOut$Place" (13 : Nat) "FootOut$Place" "crossing" "[I") ∈ lw_all := lw_g (lw_at lw_m5 123 rfl) rfl
theorem q1208 : (Jvm.Cond.fieldLink "FootOut$Place" (17 : Nat) "FootOut$Place" "hurt" "[I") ∈ lw_all := lw_g (lw_at lw_m5 125 rfl) rfl
theorem q1210 : (Jvm.Cond.fieldLink "FootOut$Place" (23 : Nat) "FootOut$Place" "behind" "I") ∈ lw_all := lw_g (lw_at lw_m5 127 rfl) rfl
theorem q1212 : (Jvm.Cond.laysFinal "FootOut$Place" "FootOut$Place" "isPainted" "Z") ∈ lw_all := lw_g (lw_at lw_m5 129 rfl) rfl
theorem q1213 : (Jvm.Cond.soleField "FootOut$Place" "isPainted") ∈ lw_all := lw_g (lw_at lw_m5 130 rfl) rfl
theorem q1214 : (Jvm.Cond.laysFinal "FootOut$Place" "FootOut$Place" "crossing" "[I") ∈ lw_all := lw_g (lw_at lw_m5 131 rfl) rfl
theorem q1215 : (Jvm.Cond.soleField "FootOut$Place" "crossing") ∈ lw_all := lw_g (lw_at lw_m5 132 rfl) rfl
theorem q1216 : (Jvm.Cond.laysFinal "FootOut$Place" "FootOut$Place" "hurt" "[I") ∈ lw_all := lw_g (lw_at lw_m5 133 rfl) rfl
theorem q1217 : (Jvm.Cond.soleField "FootOut$Place" "hurt") ∈ lw_all := lw_g (lw_at lw_m5 134 rfl) rfl
theorem q1218 : (Jvm.Cond.lays "FootOut$Place" "FootOut$Place" "behind" "I") ∈ lw_all := lw_g (lw_at lw_m5 135 rfl) rfl
theorem q1219 : (Jvm.Cond.soleField "FootOut$Place" "behind") ∈ lw_all := lw_g (lw_at lw_m5 136 rfl) rfl
theorem q1220 : (Jvm.Cond.superclass "FootOut$Place" "java/lang/Object") ∈ lw_all := lw_g (lw_at lw_m5 137 rfl) rfl
theorem q1239 : (Jvm.Cond.instanceMethod ({ cls := "FootOut$Place", name := "hurt", desc := "()I" } : Jvm.MethodName)) ∈ lw_all := lw_g (lw_at lw_m5 156 rfl) rfl
theorem q1240 : (Jvm.Cond.selects "FootOut$Place" ({ cls := "FootOut$Place", name := "hurt", desc := "()I" } : Jvm.MethodName) ({ cls := "FootOut$Place", name := "hurt", desc := "()I" } : Jvm.MethodName)) ∈ lw_all := lw_g (lw_at lw_m5 157 rfl) rfl
theorem q1241 : (Jvm.Cond.code ({ cls := "FootOut$Place", name := "hurt", desc := "()I" } : Jvm.MethodName) prog_12_method_2_code (1 : Nat) (Option.some Jvm.ClassFile.FieldType.int)) ∈ lw_all := lw_g (lw_at lw_m5 158 rfl) rfl
theorem q1243 : (Jvm.Cond.instanceMethod ({ cls := "FootOut$Place", name := "crossing", desc := "()I" } : Jvm.MethodName)) ∈ lw_all := lw_g (lw_at lw_m5 160 rfl) rfl
theorem q1244 : (Jvm.Cond.selects "FootOut$Place" ({ cls := "FootOut$Place", name := "crossing", desc := "()I" } : Jvm.MethodName) ({ cls := "FootOut$Place", name := "crossing", desc := "()I" } : Jvm.MethodName)) ∈ lw_all := lw_g (lw_at lw_m5 161 rfl) rfl
theorem q1245 : (Jvm.Cond.code ({ cls := "FootOut$Place", name := "crossing", desc := "()I" } : Jvm.MethodName) prog_12_method_3_code (1 : Nat) (Option.some Jvm.ClassFile.FieldType.int)) ∈ lw_all := lw_g (lw_at lw_m5 162 rfl) rfl
theorem q1283 : (Jvm.Cond.instanceMethod ({ cls := "FootOut$Place", name := "fall", desc := "()I" } : Jvm.MethodName)) ∈ lw_all := lw_g (lw_at lw_m5 200 rfl) rfl
theorem q1284 : (Jvm.Cond.selects "FootOut$Place" ({ cls := "FootOut$Place", name := "fall", desc := "()I" } : Jvm.MethodName) ({ cls := "FootOut$Place", name := "fall", desc := "()I" } : Jvm.MethodName)) ∈ lw_all := lw_g (lw_at lw_m5 201 rfl) rfl
theorem q1285 : (Jvm.Cond.code ({ cls := "FootOut$Place", name := "fall", desc := "()I" } : Jvm.MethodName) prog_12_method_4_code (1 : Nat) (Option.some Jvm.ClassFile.FieldType.int)) ∈ lw_all := lw_g (lw_at lw_m5 202 rfl) rfl
theorem q1286 : (Jvm.Cond.methodLink "FootOut$Place" (20 : Nat) ({ cls := "FootOut$Place", name := "hurt", desc := "()I" } : Jvm.MethodName)) ∈ lw_all := lw_g (lw_at lw_m5 203 rfl) rfl
theorem q1594 : (Jvm.Cond.instanceMethod ({ cls := "FootOut$Place", name := "copy", desc := "()LFootOut$Place;" } : Jvm.MethodName)) ∈ lw_all := lw_g (lw_at lw_m7 31 rfl) rfl
theorem q1595 : (Jvm.Cond.selects "FootOut$Place" ({ cls := "FootOut$Place", name := "copy", desc := "()LFootOut$Place;" } : Jvm.MethodName) ({ cls := "FootOut$Place", name := "copy", desc := "()LFootOut$Place;" } : Jvm.MethodName)) ∈ lw_all := lw_g (lw_at lw_m7 32 rfl) rfl
theorem q1596 : (Jvm.Cond.code ({ cls := "FootOut$Place", name := "copy", desc := "()LFootOut$Place;" } : Jvm.MethodName) prog_12_method_5_code (2 : Nat) (Option.some (Jvm.ClassFile.FieldType.object "FootOut$Place"))) ∈ lw_all := lw_g (lw_at lw_m7 33 rfl) rfl
theorem q1597 : (Jvm.Cond.classLink "FootOut$Place" (8 : Nat) "FootOut$Place") ∈ lw_all := lw_g (lw_at lw_m7 34 rfl) rfl
theorem q1598 : (Jvm.Cond.methodLink "FootOut$Place" (27 : Nat) ({ cls := "FootOut$Place", name := "<init>", desc := "(ZIIII)V" } : Jvm.MethodName)) ∈ lw_all := lw_g (lw_at lw_m7 35 rfl) rfl
theorem q2224 : (Jvm.Cond.castable "FootOut$Place" "java/lang/Object") ∈ lw_tbl := lw_at lw_m9 181 rfl
theorem in_X19 : ∀ w ∈ wsX190, w ∈ lw_all := lw_in wsX190 [1212, 1214, 1216, 1218] (by decide +kernel) (by decide +kernel)

