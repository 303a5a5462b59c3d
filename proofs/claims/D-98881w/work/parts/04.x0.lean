/-! HairProvince -/
set_option maxRecDepth 100000
def RX0 : String := "HairProvince"
def TX0 : u_T := fun k => match k with
  | 0 => ("HairProvince", "trays", "[LHairProvince$Tray;", true)
  | 1 => ("HairProvince", "reader", "LHairProvince$Reader;", true)
  | 2 => ("HairProvince", "trusting", "LHairProvince$Saying;", true)
  | 3 => ("HairProvince", "province", "LHairProvince$Province;", false)
  | 4 => ("HairProvince", "steps", "[LHairProvince$Step;", false)
  | 5 => ("HairProvince", "stepMany", "I", false)
  | 6 => ("HairProvince", "status", "I", false)
  | 7 => ("HairProvince", "faultKind", "I", false)
  | 8 => ("HairProvince", "faultPlace", "I", false)
  | 9 => ("HairProvince", "top", "J", false)
  | 10 => ("HairProvince", "bottom", "J", false)
  | 11 => ("HairProvince", "then", "LHairProvince$Province;", false)
  | 12 => ("HairProvince", "lengths", "[Z", true)
  | 13 => ("HairProvince", "ordersOf", "[I", true)
  | 14 => ("HairProvince", "aheadOf", "[I", true)
  | 15 => ("HairProvince", "ones", "[LHairProvince$Person;", true)
  | 16 => ("HairProvince", "twos", "[LHairProvince$Person;", true)
  | 17 => ("HairProvince", "firstMove", "I", false)
  | 18 => ("HairProvince", "drawn", "I", false)
  | 19 => ("HairProvince", "ranSteps", "I", false)
  | 20 => ("HairProvince", "ran", "[I", true)
  | 21 => ("HairProvince", "lasted", "[I", true)
  | 22 => ("HairProvince", "isLasted", "Z", false)
  | 23 => ("HairProvince", "marked", "[LHairProvince$Kept;", true)
  | _ => ("HairProvince", "marks", "I", false)
def tyX0 : Nat → FieldType := fun k => match k with
  | 0 => .array (.object "HairProvince$Tray")
  | 1 => .object "HairProvince$Reader"
  | 2 => .object "HairProvince$Saying"
  | 3 => .object "HairProvince$Province"
  | 4 => .array (.object "HairProvince$Step")
  | 5 => .int
  | 6 => .int
  | 7 => .int
  | 8 => .int
  | 9 => .long
  | 10 => .long
  | 11 => .object "HairProvince$Province"
  | 12 => .array .boolean
  | 13 => .array .int
  | 14 => .array .int
  | 15 => .array (.object "HairProvince$Person")
  | 16 => .array (.object "HairProvince$Person")
  | 17 => .int
  | 18 => .int
  | 19 => .int
  | 20 => .array .int
  | 21 => .array .int
  | 22 => .boolean
  | 23 => .array (.object "HairProvince$Kept")
  | _ => .int
abbrev wsX00 : List Cond := u_ws RX0 TX0 25
set_option maxRecDepth 100000 in
theorem nmX0 : ∀ a, a < 25 → ∀ b, b < 25 → a ≠ b → (TX0 a).2.1 ≠ (TX0 b).2.1 := by decide +kernel
set_option maxRecDepth 100000 in
theorem tyX0_ok : ∀ k, k < 25 → parseFieldDescriptor (TX0 k).2.2.1 = some (tyX0 k) := by decide +kernel
abbrev cX0_init : ByteArray := prog_1_method_3_code
def yX0_init : MethodName := ⟨RX0, "<init>", "()V"⟩
def dkwX0_init_9 : List UInt8 := [177]
abbrev dktX0_init_9 : List UInt8 := dkwX0_init_9 ++ []
def dkwX0_init_8 : List UInt8 := [183, 0, 89, 83, 42, 180, 0, 73, 27, 187, 0, 67, 89, 9, 183, 0, 89, 83, 132, 1, 1, 167, 255, 220]
abbrev dktX0_init_8 : List UInt8 := dkwX0_init_8 ++ dktX0_init_9
def dkwX0_init_7 : List UInt8 := [132, 1, 1, 167, 255, 235, 3, 60, 27, 6, 163, 0, 37, 42, 180, 0, 69, 27, 187, 0, 67, 89, 9]
abbrev dktX0_init_7 : List UInt8 := dkwX0_init_7 ++ dktX0_init_8
def dkwX0_init_6 : List UInt8 := [181, 0, 84, 3, 60, 27, 7, 162, 0, 22, 42, 180, 0, 11, 27, 187, 0, 9, 89, 183, 0, 88, 83]
abbrev dktX0_init_6 : List UInt8 := dkwX0_init_6 ++ dktX0_init_7
def dkwX0_init_5 : List UInt8 := [181, 0, 73, 42, 8, 188, 10, 181, 0, 76, 42, 8, 188, 10, 181, 0, 79, 42, 6, 189, 0, 82]
abbrev dktX0_init_5 : List UInt8 := dkwX0_init_5 ++ dktX0_init_6
def dkwX0_init_4 : List UInt8 := [181, 0, 60, 42, 16, 8, 188, 10, 181, 0, 64, 42, 7, 189, 0, 67, 181, 0, 69, 42, 7, 189, 0, 67]
abbrev dktX0_init_4 : List UInt8 := dkwX0_init_4 ++ dktX0_init_5
def dkwX0_init_3 : List UInt8 := [180, 0, 23, 182, 0, 34, 181, 0, 53, 42, 17, 28, 32, 188, 4, 181, 0, 56, 42, 17, 1, 0, 188, 10]
abbrev dktX0_init_3 : List UInt8 := dkwX0_init_3 ++ dktX0_init_4
def dkwX0_init_2 : List UInt8 := [182, 0, 34, 181, 0, 38, 42, 2, 181, 0, 42, 42, 2, 181, 0, 46, 42, 10, 181, 0, 49, 42, 42]
abbrev dktX0_init_2 : List UInt8 := dkwX0_init_2 ++ dktX0_init_3
def dkwX0_init_1 : List UInt8 := [183, 0, 20, 181, 0, 23, 42, 187, 0, 27, 89, 183, 0, 29, 181, 0, 30, 42, 42, 180, 0, 23]
abbrev dktX0_init_1 : List UInt8 := dkwX0_init_1 ++ dktX0_init_2
def dkwX0_init_0 : List UInt8 := [42, 183, 0, 1, 42, 7, 189, 0, 9, 181, 0, 11, 42, 187, 0, 15, 89, 187, 0, 17, 89, 183, 0, 19]
abbrev dktX0_init_0 : List UInt8 := dkwX0_init_0 ++ dktX0_init_1
theorem dksX0_init_0 : cX0_init.data.toList.drop 0 = dktX0_init_0 := by decide +kernel
theorem dksX0_init_1 : cX0_init.data.toList.drop 24 = dktX0_init_1 := dk_seg dksX0_init_0 24 rfl rfl
theorem dksX0_init_2 : cX0_init.data.toList.drop 46 = dktX0_init_2 := dk_seg dksX0_init_1 22 rfl rfl
theorem dksX0_init_3 : cX0_init.data.toList.drop 69 = dktX0_init_3 := dk_seg dksX0_init_2 23 rfl rfl
theorem dksX0_init_4 : cX0_init.data.toList.drop 93 = dktX0_init_4 := dk_seg dksX0_init_3 24 rfl rfl
theorem dksX0_init_5 : cX0_init.data.toList.drop 117 = dktX0_init_5 := dk_seg dksX0_init_4 24 rfl rfl
theorem dksX0_init_6 : cX0_init.data.toList.drop 139 = dktX0_init_6 := dk_seg dksX0_init_5 22 rfl rfl
theorem dksX0_init_7 : cX0_init.data.toList.drop 162 = dktX0_init_7 := dk_seg dksX0_init_6 23 rfl rfl
theorem dksX0_init_8 : cX0_init.data.toList.drop 185 = dktX0_init_8 := dk_seg dksX0_init_7 23 rfl rfl
theorem dksX0_init_9 : cX0_init.data.toList.drop 209 = dktX0_init_9 := dk_seg dksX0_init_8 24 rfl rfl
theorem dX0_init_0 : decode cX0_init 0 = .ok (.aload_n 0, 1) := dk_42 (dk_at dksX0_init_0 0 rfl rfl)
theorem dX0_init_1 : decode cX0_init 1 = .ok (.invokespecial 1, 3) := dk_183 0 1 (dk_at dksX0_init_0 1 rfl rfl)
theorem dX0_init_4 : decode cX0_init 4 = .ok (.aload_n 0, 1) := dk_42 (dk_at dksX0_init_0 4 rfl rfl)
theorem dX0_init_5 : decode cX0_init 5 = .ok (.iconst 4, 1) := dk_7 (dk_at dksX0_init_0 5 rfl rfl)
theorem dX0_init_6 : decode cX0_init 6 = .ok (.anewarray 9, 3) := dk_189 0 9 (dk_at dksX0_init_0 6 rfl rfl)
theorem dX0_init_9 : decode cX0_init 9 = .ok (.putfield 11, 3) := dk_181 0 11 (dk_at dksX0_init_0 9 rfl rfl)
theorem dX0_init_12 : decode cX0_init 12 = .ok (.aload_n 0, 1) := dk_42 (dk_at dksX0_init_0 12 rfl rfl)
theorem dX0_init_13 : decode cX0_init 13 = .ok (.new 15, 3) := dk_187 0 15 (dk_at dksX0_init_0 13 rfl rfl)
theorem dX0_init_16 : decode cX0_init 16 = .ok (.dup, 1) := dk_89 (dk_at dksX0_init_0 16 rfl rfl)
theorem dX0_init_17 : decode cX0_init 17 = .ok (.new 17, 3) := dk_187 0 17 (dk_at dksX0_init_0 17 rfl rfl)
theorem dX0_init_20 : decode cX0_init 20 = .ok (.dup, 1) := dk_89 (dk_at dksX0_init_0 20 rfl rfl)
theorem dX0_init_21 : decode cX0_init 21 = .ok (.invokespecial 19, 3) := dk_183 0 19 (dk_at dksX0_init_0 21 rfl rfl)
theorem dX0_init_24 : decode cX0_init 24 = .ok (.invokespecial 20, 3) := dk_183 0 20 (dk_at dksX0_init_1 0 rfl rfl)
theorem dX0_init_27 : decode cX0_init 27 = .ok (.putfield 23, 3) := dk_181 0 23 (dk_at dksX0_init_1 3 rfl rfl)
theorem dX0_init_30 : decode cX0_init 30 = .ok (.aload_n 0, 1) := dk_42 (dk_at dksX0_init_1 6 rfl rfl)
theorem dX0_init_31 : decode cX0_init 31 = .ok (.new 27, 3) := dk_187 0 27 (dk_at dksX0_init_1 7 rfl rfl)
theorem dX0_init_34 : decode cX0_init 34 = .ok (.dup, 1) := dk_89 (dk_at dksX0_init_1 10 rfl rfl)
theorem dX0_init_35 : decode cX0_init 35 = .ok (.invokespecial 29, 3) := dk_183 0 29 (dk_at dksX0_init_1 11 rfl rfl)
theorem dX0_init_38 : decode cX0_init 38 = .ok (.putfield 30, 3) := dk_181 0 30 (dk_at dksX0_init_1 14 rfl rfl)
theorem dX0_init_41 : decode cX0_init 41 = .ok (.aload_n 0, 1) := dk_42 (dk_at dksX0_init_1 17 rfl rfl)
theorem dX0_init_42 : decode cX0_init 42 = .ok (.aload_n 0, 1) := dk_42 (dk_at dksX0_init_1 18 rfl rfl)
theorem dX0_init_43 : decode cX0_init 43 = .ok (.getfield 23, 3) := dk_180 0 23 (dk_at dksX0_init_1 19 rfl rfl)
theorem dX0_init_46 : decode cX0_init 46 = .ok (.invokevirtual 34, 3) := dk_182 0 34 (dk_at dksX0_init_2 0 rfl rfl)
theorem dX0_init_49 : decode cX0_init 49 = .ok (.putfield 38, 3) := dk_181 0 38 (dk_at dksX0_init_2 3 rfl rfl)
theorem dX0_init_52 : decode cX0_init 52 = .ok (.aload_n 0, 1) := dk_42 (dk_at dksX0_init_2 6 rfl rfl)
theorem dX0_init_53 : decode cX0_init 53 = .ok (.iconst (-1), 1) := dk_2 (dk_at dksX0_init_2 7 rfl rfl)
theorem dX0_init_54 : decode cX0_init 54 = .ok (.putfield 42, 3) := dk_181 0 42 (dk_at dksX0_init_2 8 rfl rfl)
theorem dX0_init_57 : decode cX0_init 57 = .ok (.aload_n 0, 1) := dk_42 (dk_at dksX0_init_2 11 rfl rfl)
theorem dX0_init_58 : decode cX0_init 58 = .ok (.iconst (-1), 1) := dk_2 (dk_at dksX0_init_2 12 rfl rfl)
theorem dX0_init_59 : decode cX0_init 59 = .ok (.putfield 46, 3) := dk_181 0 46 (dk_at dksX0_init_2 13 rfl rfl)
theorem dX0_init_62 : decode cX0_init 62 = .ok (.aload_n 0, 1) := dk_42 (dk_at dksX0_init_2 16 rfl rfl)
theorem dX0_init_63 : decode cX0_init 63 = .ok (.lconst 1, 1) := dk_10 (dk_at dksX0_init_2 17 rfl rfl)
theorem dX0_init_64 : decode cX0_init 64 = .ok (.putfield 49, 3) := dk_181 0 49 (dk_at dksX0_init_2 18 rfl rfl)
theorem dX0_init_67 : decode cX0_init 67 = .ok (.aload_n 0, 1) := dk_42 (dk_at dksX0_init_2 21 rfl rfl)
theorem dX0_init_68 : decode cX0_init 68 = .ok (.aload_n 0, 1) := dk_42 (dk_at dksX0_init_2 22 rfl rfl)
theorem dX0_init_69 : decode cX0_init 69 = .ok (.getfield 23, 3) := dk_180 0 23 (dk_at dksX0_init_3 0 rfl rfl)
theorem dX0_init_72 : decode cX0_init 72 = .ok (.invokevirtual 34, 3) := dk_182 0 34 (dk_at dksX0_init_3 3 rfl rfl)
theorem dX0_init_75 : decode cX0_init 75 = .ok (.putfield 53, 3) := dk_181 0 53 (dk_at dksX0_init_3 6 rfl rfl)
theorem dX0_init_78 : decode cX0_init 78 = .ok (.aload_n 0, 1) := dk_42 (dk_at dksX0_init_3 9 rfl rfl)
theorem dX0_init_79 : decode cX0_init 79 = .ok (.sipush 7200, 3) := dk_17 28 32 (dk_at dksX0_init_3 10 rfl rfl)
theorem dX0_init_82 : decode cX0_init 82 = .ok (.newarray .boolean, 2) := dk_188_4 (dk_at dksX0_init_3 13 rfl rfl)
theorem dX0_init_84 : decode cX0_init 84 = .ok (.putfield 56, 3) := dk_181 0 56 (dk_at dksX0_init_3 15 rfl rfl)
theorem dX0_init_87 : decode cX0_init 87 = .ok (.aload_n 0, 1) := dk_42 (dk_at dksX0_init_3 18 rfl rfl)
theorem dX0_init_88 : decode cX0_init 88 = .ok (.sipush 256, 3) := dk_17 1 0 (dk_at dksX0_init_3 19 rfl rfl)
theorem dX0_init_91 : decode cX0_init 91 = .ok (.newarray .int, 2) := dk_188_10 (dk_at dksX0_init_3 22 rfl rfl)
theorem dX0_init_93 : decode cX0_init 93 = .ok (.putfield 60, 3) := dk_181 0 60 (dk_at dksX0_init_4 0 rfl rfl)
theorem dX0_init_96 : decode cX0_init 96 = .ok (.aload_n 0, 1) := dk_42 (dk_at dksX0_init_4 3 rfl rfl)
theorem dX0_init_97 : decode cX0_init 97 = .ok (.bipush 8, 2) := dk_16 8 (dk_at dksX0_init_4 4 rfl rfl)
theorem dX0_init_99 : decode cX0_init 99 = .ok (.newarray .int, 2) := dk_188_10 (dk_at dksX0_init_4 6 rfl rfl)
theorem dX0_init_101 : decode cX0_init 101 = .ok (.putfield 64, 3) := dk_181 0 64 (dk_at dksX0_init_4 8 rfl rfl)
theorem dX0_init_104 : decode cX0_init 104 = .ok (.aload_n 0, 1) := dk_42 (dk_at dksX0_init_4 11 rfl rfl)
theorem dX0_init_105 : decode cX0_init 105 = .ok (.iconst 4, 1) := dk_7 (dk_at dksX0_init_4 12 rfl rfl)
theorem dX0_init_106 : decode cX0_init 106 = .ok (.anewarray 67, 3) := dk_189 0 67 (dk_at dksX0_init_4 13 rfl rfl)
theorem dX0_init_109 : decode cX0_init 109 = .ok (.putfield 69, 3) := dk_181 0 69 (dk_at dksX0_init_4 16 rfl rfl)
theorem dX0_init_112 : decode cX0_init 112 = .ok (.aload_n 0, 1) := dk_42 (dk_at dksX0_init_4 19 rfl rfl)
theorem dX0_init_113 : decode cX0_init 113 = .ok (.iconst 4, 1) := dk_7 (dk_at dksX0_init_4 20 rfl rfl)
theorem dX0_init_114 : decode cX0_init 114 = .ok (.anewarray 67, 3) := dk_189 0 67 (dk_at dksX0_init_4 21 rfl rfl)
theorem dX0_init_117 : decode cX0_init 117 = .ok (.putfield 73, 3) := dk_181 0 73 (dk_at dksX0_init_5 0 rfl rfl)
theorem dX0_init_120 : decode cX0_init 120 = .ok (.aload_n 0, 1) := dk_42 (dk_at dksX0_init_5 3 rfl rfl)
theorem dX0_init_121 : decode cX0_init 121 = .ok (.iconst 5, 1) := dk_8 (dk_at dksX0_init_5 4 rfl rfl)
theorem dX0_init_122 : decode cX0_init 122 = .ok (.newarray .int, 2) := dk_188_10 (dk_at dksX0_init_5 5 rfl rfl)
theorem dX0_init_124 : decode cX0_init 124 = .ok (.putfield 76, 3) := dk_181 0 76 (dk_at dksX0_init_5 7 rfl rfl)
theorem dX0_init_127 : decode cX0_init 127 = .ok (.aload_n 0, 1) := dk_42 (dk_at dksX0_init_5 10 rfl rfl)
theorem dX0_init_128 : decode cX0_init 128 = .ok (.iconst 5, 1) := dk_8 (dk_at dksX0_init_5 11 rfl rfl)
theorem dX0_init_129 : decode cX0_init 129 = .ok (.newarray .int, 2) := dk_188_10 (dk_at dksX0_init_5 12 rfl rfl)
theorem dX0_init_131 : decode cX0_init 131 = .ok (.putfield 79, 3) := dk_181 0 79 (dk_at dksX0_init_5 14 rfl rfl)
theorem dX0_init_134 : decode cX0_init 134 = .ok (.aload_n 0, 1) := dk_42 (dk_at dksX0_init_5 17 rfl rfl)
theorem dX0_init_135 : decode cX0_init 135 = .ok (.iconst 3, 1) := dk_6 (dk_at dksX0_init_5 18 rfl rfl)
theorem dX0_init_136 : decode cX0_init 136 = .ok (.anewarray 82, 3) := dk_189 0 82 (dk_at dksX0_init_5 19 rfl rfl)
theorem dX0_init_139 : decode cX0_init 139 = .ok (.putfield 84, 3) := dk_181 0 84 (dk_at dksX0_init_6 0 rfl rfl)
theorem dX0_init_142 : decode cX0_init 142 = .ok (.iconst 0, 1) := dk_3 (dk_at dksX0_init_6 3 rfl rfl)
theorem dX0_init_143 : decode cX0_init 143 = .ok (.istore_n 1, 1) := dk_60 (dk_at dksX0_init_6 4 rfl rfl)
theorem dX0_init_144 : decode cX0_init 144 = .ok (.iload_n 1, 1) := dk_27 (dk_at dksX0_init_6 5 rfl rfl)
theorem dX0_init_145 : decode cX0_init 145 = .ok (.iconst 4, 1) := dk_7 (dk_at dksX0_init_6 6 rfl rfl)
theorem dX0_init_146 : decode cX0_init 146 = .ok (.if_icmp .ge 22, 3) := dk_162 0 22 (dk_at dksX0_init_6 7 rfl rfl)
theorem dX0_init_149 : decode cX0_init 149 = .ok (.aload_n 0, 1) := dk_42 (dk_at dksX0_init_6 10 rfl rfl)
theorem dX0_init_150 : decode cX0_init 150 = .ok (.getfield 11, 3) := dk_180 0 11 (dk_at dksX0_init_6 11 rfl rfl)
theorem dX0_init_153 : decode cX0_init 153 = .ok (.iload_n 1, 1) := dk_27 (dk_at dksX0_init_6 14 rfl rfl)
theorem dX0_init_154 : decode cX0_init 154 = .ok (.new 9, 3) := dk_187 0 9 (dk_at dksX0_init_6 15 rfl rfl)
theorem dX0_init_157 : decode cX0_init 157 = .ok (.dup, 1) := dk_89 (dk_at dksX0_init_6 18 rfl rfl)
theorem dX0_init_158 : decode cX0_init 158 = .ok (.invokespecial 88, 3) := dk_183 0 88 (dk_at dksX0_init_6 19 rfl rfl)
theorem dX0_init_161 : decode cX0_init 161 = .ok (.aastore, 1) := dk_83 (dk_at dksX0_init_6 22 rfl rfl)
theorem dX0_init_162 : decode cX0_init 162 = .ok (.iinc 1 1, 3) := dk_132 1 1 (dk_at dksX0_init_7 0 rfl rfl)
theorem dX0_init_165 : decode cX0_init 165 = .ok (.goto (-21), 3) := dk_167 255 235 (dk_at dksX0_init_7 3 rfl rfl)
theorem dX0_init_168 : decode cX0_init 168 = .ok (.iconst 0, 1) := dk_3 (dk_at dksX0_init_7 6 rfl rfl)
theorem dX0_init_169 : decode cX0_init 169 = .ok (.istore_n 1, 1) := dk_60 (dk_at dksX0_init_7 7 rfl rfl)
theorem dX0_init_170 : decode cX0_init 170 = .ok (.iload_n 1, 1) := dk_27 (dk_at dksX0_init_7 8 rfl rfl)
theorem dX0_init_171 : decode cX0_init 171 = .ok (.iconst 3, 1) := dk_6 (dk_at dksX0_init_7 9 rfl rfl)
theorem dX0_init_172 : decode cX0_init 172 = .ok (.if_icmp .gt 37, 3) := dk_163 0 37 (dk_at dksX0_init_7 10 rfl rfl)
theorem dX0_init_175 : decode cX0_init 175 = .ok (.aload_n 0, 1) := dk_42 (dk_at dksX0_init_7 13 rfl rfl)
theorem dX0_init_176 : decode cX0_init 176 = .ok (.getfield 69, 3) := dk_180 0 69 (dk_at dksX0_init_7 14 rfl rfl)
theorem dX0_init_179 : decode cX0_init 179 = .ok (.iload_n 1, 1) := dk_27 (dk_at dksX0_init_7 17 rfl rfl)
theorem dX0_init_180 : decode cX0_init 180 = .ok (.new 67, 3) := dk_187 0 67 (dk_at dksX0_init_7 18 rfl rfl)
theorem dX0_init_183 : decode cX0_init 183 = .ok (.dup, 1) := dk_89 (dk_at dksX0_init_7 21 rfl rfl)
theorem dX0_init_184 : decode cX0_init 184 = .ok (.lconst 0, 1) := dk_9 (dk_at dksX0_init_7 22 rfl rfl)
theorem dX0_init_185 : decode cX0_init 185 = .ok (.invokespecial 89, 3) := dk_183 0 89 (dk_at dksX0_init_8 0 rfl rfl)
theorem dX0_init_188 : decode cX0_init 188 = .ok (.aastore, 1) := dk_83 (dk_at dksX0_init_8 3 rfl rfl)
theorem dX0_init_189 : decode cX0_init 189 = .ok (.aload_n 0, 1) := dk_42 (dk_at dksX0_init_8 4 rfl rfl)
theorem dX0_init_190 : decode cX0_init 190 = .ok (.getfield 73, 3) := dk_180 0 73 (dk_at dksX0_init_8 5 rfl rfl)
theorem dX0_init_193 : decode cX0_init 193 = .ok (.iload_n 1, 1) := dk_27 (dk_at dksX0_init_8 8 rfl rfl)
theorem dX0_init_194 : decode cX0_init 194 = .ok (.new 67, 3) := dk_187 0 67 (dk_at dksX0_init_8 9 rfl rfl)
theorem dX0_init_197 : decode cX0_init 197 = .ok (.dup, 1) := dk_89 (dk_at dksX0_init_8 12 rfl rfl)
theorem dX0_init_198 : decode cX0_init 198 = .ok (.lconst 0, 1) := dk_9 (dk_at dksX0_init_8 13 rfl rfl)
theorem dX0_init_199 : decode cX0_init 199 = .ok (.invokespecial 89, 3) := dk_183 0 89 (dk_at dksX0_init_8 14 rfl rfl)
theorem dX0_init_202 : decode cX0_init 202 = .ok (.aastore, 1) := dk_83 (dk_at dksX0_init_8 17 rfl rfl)
theorem dX0_init_203 : decode cX0_init 203 = .ok (.iinc 1 1, 3) := dk_132 1 1 (dk_at dksX0_init_8 18 rfl rfl)
theorem dX0_init_206 : decode cX0_init 206 = .ok (.goto (-36), 3) := dk_167 255 220 (dk_at dksX0_init_8 21 rfl rfl)
theorem dX0_init_209 : decode cX0_init 209 = .ok (.return_, 1) := dk_177 (dk_at dksX0_init_9 0 rfl rfl)
abbrev cX0_status : ByteArray := prog_1_method_4_code
def yX0_status : MethodName := ⟨RX0, "status", "()I"⟩
theorem dX0_status_0 : decode cX0_status 0 = .ok (.aload_n 0, 1) := by decide +kernel
theorem dX0_status_1 : decode cX0_status 1 = .ok (.getfield 92, 3) := by decide +kernel
theorem dX0_status_4 : decode cX0_status 4 = .ok (.ireturn, 1) := by decide +kernel
abbrev cX0_top : ByteArray := prog_1_method_5_code
def yX0_top : MethodName := ⟨RX0, "top", "()J"⟩
theorem dX0_top_0 : decode cX0_top 0 = .ok (.aload_n 0, 1) := by decide +kernel
theorem dX0_top_1 : decode cX0_top 1 = .ok (.getfield 95, 3) := by decide +kernel
theorem dX0_top_4 : decode cX0_top 4 = .ok (.lreturn, 1) := by decide +kernel
abbrev cX0_bottom : ByteArray := prog_1_method_6_code
def yX0_bottom : MethodName := ⟨RX0, "bottom", "()J"⟩
theorem dX0_bottom_0 : decode cX0_bottom 0 = .ok (.aload_n 0, 1) := by decide +kernel
theorem dX0_bottom_1 : decode cX0_bottom 1 = .ok (.getfield 49, 3) := by decide +kernel
theorem dX0_bottom_4 : decode cX0_bottom 4 = .ok (.lreturn, 1) := by decide +kernel
abbrev cX0_tray : ByteArray := prog_1_method_13_code
def yX0_tray : MethodName := ⟨RX0, "tray", "(III)Z"⟩
def dkwX0_tray_2 : List UInt8 := [167, 0, 12, 58, 4, 42, 16, 6, 182, 0, 105, 172, 42, 3, 182, 0, 105, 172]
abbrev dktX0_tray_2 : List UInt8 := dkwX0_tray_2 ++ []
def dkwX0_tray_1 : List UInt8 := [16, 60, 164, 0, 9, 42, 8, 182, 0, 105, 172, 42, 180, 0, 11, 27, 50, 28, 29, 182, 0, 112]
abbrev dktX0_tray_1 : List UInt8 := dkwX0_tray_1 ++ dktX0_tray_2
def dkwX0_tray_0 : List UInt8 := [27, 184, 0, 109, 153, 0, 12, 28, 155, 0, 8, 28, 6, 164, 0, 9, 42, 4, 182, 0, 105, 172, 29]
abbrev dktX0_tray_0 : List UInt8 := dkwX0_tray_0 ++ dktX0_tray_1
theorem dksX0_tray_0 : cX0_tray.data.toList.drop 0 = dktX0_tray_0 := by decide +kernel
theorem dksX0_tray_1 : cX0_tray.data.toList.drop 23 = dktX0_tray_1 := dk_seg dksX0_tray_0 23 rfl rfl
theorem dksX0_tray_2 : cX0_tray.data.toList.drop 45 = dktX0_tray_2 := dk_seg dksX0_tray_1 22 rfl rfl
theorem dX0_tray_0 : decode cX0_tray 0 = .ok (.iload_n 1, 1) := dk_27 (dk_at dksX0_tray_0 0 rfl rfl)
theorem dX0_tray_1 : decode cX0_tray 1 = .ok (.invokestatic 109, 3) := dk_184 0 109 (dk_at dksX0_tray_0 1 rfl rfl)
theorem dX0_tray_4 : decode cX0_tray 4 = .ok (.ifCond .eq 12, 3) := dk_153 0 12 (dk_at dksX0_tray_0 4 rfl rfl)
theorem dX0_tray_7 : decode cX0_tray 7 = .ok (.iload_n 2, 1) := dk_28 (dk_at dksX0_tray_0 7 rfl rfl)
theorem dX0_tray_8 : decode cX0_tray 8 = .ok (.ifCond .lt 8, 3) := dk_155 0 8 (dk_at dksX0_tray_0 8 rfl rfl)
theorem dX0_tray_11 : decode cX0_tray 11 = .ok (.iload_n 2, 1) := dk_28 (dk_at dksX0_tray_0 11 rfl rfl)
theorem dX0_tray_12 : decode cX0_tray 12 = .ok (.iconst 3, 1) := dk_6 (dk_at dksX0_tray_0 12 rfl rfl)
theorem dX0_tray_13 : decode cX0_tray 13 = .ok (.if_icmp .le 9, 3) := dk_164 0 9 (dk_at dksX0_tray_0 13 rfl rfl)
theorem dX0_tray_16 : decode cX0_tray 16 = .ok (.aload_n 0, 1) := dk_42 (dk_at dksX0_tray_0 16 rfl rfl)
theorem dX0_tray_17 : decode cX0_tray 17 = .ok (.iconst 1, 1) := dk_4 (dk_at dksX0_tray_0 17 rfl rfl)
theorem dX0_tray_18 : decode cX0_tray 18 = .ok (.invokevirtual 105, 3) := dk_182 0 105 (dk_at dksX0_tray_0 18 rfl rfl)
theorem dX0_tray_21 : decode cX0_tray 21 = .ok (.ireturn, 1) := dk_172 (dk_at dksX0_tray_0 21 rfl rfl)
theorem dX0_tray_22 : decode cX0_tray 22 = .ok (.iload_n 3, 1) := dk_29 (dk_at dksX0_tray_0 22 rfl rfl)
theorem dX0_tray_23 : decode cX0_tray 23 = .ok (.bipush 60, 2) := dk_16 60 (dk_at dksX0_tray_1 0 rfl rfl)
theorem dX0_tray_25 : decode cX0_tray 25 = .ok (.if_icmp .le 9, 3) := dk_164 0 9 (dk_at dksX0_tray_1 2 rfl rfl)
theorem dX0_tray_28 : decode cX0_tray 28 = .ok (.aload_n 0, 1) := dk_42 (dk_at dksX0_tray_1 5 rfl rfl)
theorem dX0_tray_29 : decode cX0_tray 29 = .ok (.iconst 5, 1) := dk_8 (dk_at dksX0_tray_1 6 rfl rfl)
theorem dX0_tray_30 : decode cX0_tray 30 = .ok (.invokevirtual 105, 3) := dk_182 0 105 (dk_at dksX0_tray_1 7 rfl rfl)
theorem dX0_tray_33 : decode cX0_tray 33 = .ok (.ireturn, 1) := dk_172 (dk_at dksX0_tray_1 10 rfl rfl)
theorem dX0_tray_34 : decode cX0_tray 34 = .ok (.aload_n 0, 1) := dk_42 (dk_at dksX0_tray_1 11 rfl rfl)
theorem dX0_tray_35 : decode cX0_tray 35 = .ok (.getfield 11, 3) := dk_180 0 11 (dk_at dksX0_tray_1 12 rfl rfl)
theorem dX0_tray_38 : decode cX0_tray 38 = .ok (.iload_n 1, 1) := dk_27 (dk_at dksX0_tray_1 15 rfl rfl)
theorem dX0_tray_39 : decode cX0_tray 39 = .ok (.aaload, 1) := dk_50 (dk_at dksX0_tray_1 16 rfl rfl)
theorem dX0_tray_40 : decode cX0_tray 40 = .ok (.iload_n 2, 1) := dk_28 (dk_at dksX0_tray_1 17 rfl rfl)
theorem dX0_tray_41 : decode cX0_tray 41 = .ok (.iload_n 3, 1) := dk_29 (dk_at dksX0_tray_1 18 rfl rfl)
theorem dX0_tray_42 : decode cX0_tray 42 = .ok (.invokevirtual 112, 3) := dk_182 0 112 (dk_at dksX0_tray_1 19 rfl rfl)
theorem dX0_tray_45 : decode cX0_tray 45 = .ok (.goto 12, 3) := dk_167 0 12 (dk_at dksX0_tray_2 0 rfl rfl)
theorem dX0_tray_48 : decode cX0_tray 48 = .ok (.astore 4, 2) := dk_58 4 (dk_at dksX0_tray_2 3 rfl rfl)
theorem dX0_tray_50 : decode cX0_tray 50 = .ok (.aload_n 0, 1) := dk_42 (dk_at dksX0_tray_2 5 rfl rfl)
theorem dX0_tray_51 : decode cX0_tray 51 = .ok (.bipush 6, 2) := dk_16 6 (dk_at dksX0_tray_2 6 rfl rfl)
theorem dX0_tray_53 : decode cX0_tray 53 = .ok (.invokevirtual 105, 3) := dk_182 0 105 (dk_at dksX0_tray_2 8 rfl rfl)
theorem dX0_tray_56 : decode cX0_tray 56 = .ok (.ireturn, 1) := dk_172 (dk_at dksX0_tray_2 11 rfl rfl)
theorem dX0_tray_57 : decode cX0_tray 57 = .ok (.aload_n 0, 1) := dk_42 (dk_at dksX0_tray_2 12 rfl rfl)
theorem dX0_tray_58 : decode cX0_tray 58 = .ok (.iconst 0, 1) := dk_3 (dk_at dksX0_tray_2 13 rfl rfl)
theorem dX0_tray_59 : decode cX0_tray 59 = .ok (.invokevirtual 105, 3) := dk_182 0 105 (dk_at dksX0_tray_2 14 rfl rfl)
theorem dX0_tray_62 : decode cX0_tray 62 = .ok (.ireturn, 1) := dk_172 (dk_at dksX0_tray_2 17 rfl rfl)
abbrev cX0_isTray : ByteArray := prog_1_method_12_code
def yX0_isTray : MethodName := ⟨RX0, "isTray", "(I)Z"⟩
def dkwX0_isTray_0 : List UInt8 := [26, 155, 0, 12, 26, 7, 162, 0, 7, 4, 167, 0, 4, 3, 172]
abbrev dktX0_isTray_0 : List UInt8 := dkwX0_isTray_0 ++ []
theorem dksX0_isTray_0 : cX0_isTray.data.toList.drop 0 = dktX0_isTray_0 := by decide +kernel
theorem dX0_isTray_0 : decode cX0_isTray 0 = .ok (.iload_n 0, 1) := dk_26 (dk_at dksX0_isTray_0 0 rfl rfl)
theorem dX0_isTray_1 : decode cX0_isTray 1 = .ok (.ifCond .lt 12, 3) := dk_155 0 12 (dk_at dksX0_isTray_0 1 rfl rfl)
theorem dX0_isTray_4 : decode cX0_isTray 4 = .ok (.iload_n 0, 1) := dk_26 (dk_at dksX0_isTray_0 4 rfl rfl)
theorem dX0_isTray_5 : decode cX0_isTray 5 = .ok (.iconst 4, 1) := dk_7 (dk_at dksX0_isTray_0 5 rfl rfl)
theorem dX0_isTray_6 : decode cX0_isTray 6 = .ok (.if_icmp .ge 7, 3) := dk_162 0 7 (dk_at dksX0_isTray_0 6 rfl rfl)
theorem dX0_isTray_9 : decode cX0_isTray 9 = .ok (.iconst 1, 1) := dk_4 (dk_at dksX0_isTray_0 9 rfl rfl)
theorem dX0_isTray_10 : decode cX0_isTray 10 = .ok (.goto 4, 3) := dk_167 0 4 (dk_at dksX0_isTray_0 10 rfl rfl)
theorem dX0_isTray_13 : decode cX0_isTray 13 = .ok (.iconst 0, 1) := dk_3 (dk_at dksX0_isTray_0 13 rfl rfl)
theorem dX0_isTray_14 : decode cX0_isTray 14 = .ok (.ireturn, 1) := dk_172 (dk_at dksX0_isTray_0 14 rfl rfl)
abbrev cX0_is : ByteArray := prog_1_method_7_code
def yX0_is : MethodName := ⟨RX0, "is", "(I)Z"⟩
def dkwX0_is_0 : List UInt8 := [42, 27, 181, 0, 92, 27, 154, 0, 7, 4, 167, 0, 4, 3, 172]
abbrev dktX0_is_0 : List UInt8 := dkwX0_is_0 ++ []
theorem dksX0_is_0 : cX0_is.data.toList.drop 0 = dktX0_is_0 := by decide +kernel
theorem dX0_is_0 : decode cX0_is 0 = .ok (.aload_n 0, 1) := dk_42 (dk_at dksX0_is_0 0 rfl rfl)
theorem dX0_is_1 : decode cX0_is 1 = .ok (.iload_n 1, 1) := dk_27 (dk_at dksX0_is_0 1 rfl rfl)
theorem dX0_is_2 : decode cX0_is 2 = .ok (.putfield 92, 3) := dk_181 0 92 (dk_at dksX0_is_0 2 rfl rfl)
theorem dX0_is_5 : decode cX0_is 5 = .ok (.iload_n 1, 1) := dk_27 (dk_at dksX0_is_0 5 rfl rfl)
theorem dX0_is_6 : decode cX0_is 6 = .ok (.ifCond .ne 7, 3) := dk_154 0 7 (dk_at dksX0_is_0 6 rfl rfl)
theorem dX0_is_9 : decode cX0_is 9 = .ok (.iconst 1, 1) := dk_4 (dk_at dksX0_is_0 9 rfl rfl)
theorem dX0_is_10 : decode cX0_is 10 = .ok (.goto 4, 3) := dk_167 0 4 (dk_at dksX0_is_0 10 rfl rfl)
theorem dX0_is_13 : decode cX0_is 13 = .ok (.iconst 0, 1) := dk_3 (dk_at dksX0_is_0 13 rfl rfl)
theorem dX0_is_14 : decode cX0_is 14 = .ok (.ireturn, 1) := dk_172 (dk_at dksX0_is_0 14 rfl rfl)
abbrev cX0_write : ByteArray := prog_1_method_14_code
def yX0_write : MethodName := ⟨RX0, "write", "(IIJ)Z"⟩
def dkwX0_write_2 : List UInt8 := [172]
abbrev dktX0_write_2 : List UInt8 := dkwX0_write_2 ++ []
def dkwX0_write_1 : List UInt8 := [167, 0, 19, 58, 5, 42, 6, 182, 0, 105, 172, 58, 5, 42, 7, 182, 0, 105, 172, 42, 3, 182, 0, 105]
abbrev dktX0_write_1 : List UInt8 := dkwX0_write_1 ++ dktX0_write_2
def dkwX0_write_0 : List UInt8 := [27, 184, 0, 109, 154, 0, 9, 42, 4, 182, 0, 105, 172, 42, 180, 0, 11, 27, 50, 28, 33, 182, 0, 118]
abbrev dktX0_write_0 : List UInt8 := dkwX0_write_0 ++ dktX0_write_1
theorem dksX0_write_0 : cX0_write.data.toList.drop 0 = dktX0_write_0 := by decide +kernel
theorem dksX0_write_1 : cX0_write.data.toList.drop 24 = dktX0_write_1 := dk_seg dksX0_write_0 24 rfl rfl
theorem dksX0_write_2 : cX0_write.data.toList.drop 48 = dktX0_write_2 := dk_seg dksX0_write_1 24 rfl rfl
theorem dX0_write_0 : decode cX0_write 0 = .ok (.iload_n 1, 1) := dk_27 (dk_at dksX0_write_0 0 rfl rfl)
theorem dX0_write_1 : decode cX0_write 1 = .ok (.invokestatic 109, 3) := dk_184 0 109 (dk_at dksX0_write_0 1 rfl rfl)
theorem dX0_write_4 : decode cX0_write 4 = .ok (.ifCond .ne 9, 3) := dk_154 0 9 (dk_at dksX0_write_0 4 rfl rfl)
theorem dX0_write_7 : decode cX0_write 7 = .ok (.aload_n 0, 1) := dk_42 (dk_at dksX0_write_0 7 rfl rfl)
theorem dX0_write_8 : decode cX0_write 8 = .ok (.iconst 1, 1) := dk_4 (dk_at dksX0_write_0 8 rfl rfl)
theorem dX0_write_9 : decode cX0_write 9 = .ok (.invokevirtual 105, 3) := dk_182 0 105 (dk_at dksX0_write_0 9 rfl rfl)
theorem dX0_write_12 : decode cX0_write 12 = .ok (.ireturn, 1) := dk_172 (dk_at dksX0_write_0 12 rfl rfl)
theorem dX0_write_13 : decode cX0_write 13 = .ok (.aload_n 0, 1) := dk_42 (dk_at dksX0_write_0 13 rfl rfl)
theorem dX0_write_14 : decode cX0_write 14 = .ok (.getfield 11, 3) := dk_180 0 11 (dk_at dksX0_write_0 14 rfl rfl)
theorem dX0_write_17 : decode cX0_write 17 = .ok (.iload_n 1, 1) := dk_27 (dk_at dksX0_write_0 17 rfl rfl)
theorem dX0_write_18 : decode cX0_write 18 = .ok (.aaload, 1) := dk_50 (dk_at dksX0_write_0 18 rfl rfl)
theorem dX0_write_19 : decode cX0_write 19 = .ok (.iload_n 2, 1) := dk_28 (dk_at dksX0_write_0 19 rfl rfl)
theorem dX0_write_20 : decode cX0_write 20 = .ok (.lload_n 3, 1) := dk_33 (dk_at dksX0_write_0 20 rfl rfl)
theorem dX0_write_21 : decode cX0_write 21 = .ok (.invokevirtual 118, 3) := dk_182 0 118 (dk_at dksX0_write_0 21 rfl rfl)
theorem dX0_write_24 : decode cX0_write 24 = .ok (.goto 19, 3) := dk_167 0 19 (dk_at dksX0_write_1 0 rfl rfl)
theorem dX0_write_27 : decode cX0_write 27 = .ok (.astore 5, 2) := dk_58 5 (dk_at dksX0_write_1 3 rfl rfl)
theorem dX0_write_29 : decode cX0_write 29 = .ok (.aload_n 0, 1) := dk_42 (dk_at dksX0_write_1 5 rfl rfl)
theorem dX0_write_30 : decode cX0_write 30 = .ok (.iconst 3, 1) := dk_6 (dk_at dksX0_write_1 6 rfl rfl)
theorem dX0_write_31 : decode cX0_write 31 = .ok (.invokevirtual 105, 3) := dk_182 0 105 (dk_at dksX0_write_1 7 rfl rfl)
theorem dX0_write_34 : decode cX0_write 34 = .ok (.ireturn, 1) := dk_172 (dk_at dksX0_write_1 10 rfl rfl)
theorem dX0_write_35 : decode cX0_write 35 = .ok (.astore 5, 2) := dk_58 5 (dk_at dksX0_write_1 11 rfl rfl)
theorem dX0_write_37 : decode cX0_write 37 = .ok (.aload_n 0, 1) := dk_42 (dk_at dksX0_write_1 13 rfl rfl)
theorem dX0_write_38 : decode cX0_write 38 = .ok (.iconst 4, 1) := dk_7 (dk_at dksX0_write_1 14 rfl rfl)
theorem dX0_write_39 : decode cX0_write 39 = .ok (.invokevirtual 105, 3) := dk_182 0 105 (dk_at dksX0_write_1 15 rfl rfl)
theorem dX0_write_42 : decode cX0_write 42 = .ok (.ireturn, 1) := dk_172 (dk_at dksX0_write_1 18 rfl rfl)
theorem dX0_write_43 : decode cX0_write 43 = .ok (.aload_n 0, 1) := dk_42 (dk_at dksX0_write_1 19 rfl rfl)
theorem dX0_write_44 : decode cX0_write 44 = .ok (.iconst 0, 1) := dk_3 (dk_at dksX0_write_1 20 rfl rfl)
theorem dX0_write_45 : decode cX0_write 45 = .ok (.invokevirtual 105, 3) := dk_182 0 105 (dk_at dksX0_write_1 21 rfl rfl)
theorem dX0_write_48 : decode cX0_write 48 = .ok (.ireturn, 1) := dk_172 (dk_at dksX0_write_2 0 rfl rfl)
abbrev cX0_read : ByteArray := prog_1_method_15_code
def yX0_read : MethodName := ⟨RX0, "read", "(II)J"⟩
def dkwX0_read_2 : List UInt8 := [173]
abbrev dktX0_read_2 : List UInt8 := dkwX0_read_2 ++ []
def dkwX0_read_1 : List UInt8 := [50, 28, 182, 0, 126, 173, 78, 42, 6, 181, 0, 92, 167, 0, 9, 78, 42, 7, 181, 0, 92, 20, 0, 130]
abbrev dktX0_read_1 : List UInt8 := dkwX0_read_1 ++ dktX0_read_2
def dkwX0_read_0 : List UInt8 := [27, 184, 0, 109, 154, 0, 10, 42, 4, 182, 0, 98, 133, 173, 42, 3, 181, 0, 92, 42, 180, 0, 11, 27]
abbrev dktX0_read_0 : List UInt8 := dkwX0_read_0 ++ dktX0_read_1
theorem dksX0_read_0 : cX0_read.data.toList.drop 0 = dktX0_read_0 := by decide +kernel
theorem dksX0_read_1 : cX0_read.data.toList.drop 24 = dktX0_read_1 := dk_seg dksX0_read_0 24 rfl rfl
theorem dksX0_read_2 : cX0_read.data.toList.drop 48 = dktX0_read_2 := dk_seg dksX0_read_1 24 rfl rfl
theorem dX0_read_0 : decode cX0_read 0 = .ok (.iload_n 1, 1) := dk_27 (dk_at dksX0_read_0 0 rfl rfl)
theorem dX0_read_1 : decode cX0_read 1 = .ok (.invokestatic 109, 3) := dk_184 0 109 (dk_at dksX0_read_0 1 rfl rfl)
theorem dX0_read_4 : decode cX0_read 4 = .ok (.ifCond .ne 10, 3) := dk_154 0 10 (dk_at dksX0_read_0 4 rfl rfl)
theorem dX0_read_7 : decode cX0_read 7 = .ok (.aload_n 0, 1) := dk_42 (dk_at dksX0_read_0 7 rfl rfl)
theorem dX0_read_8 : decode cX0_read 8 = .ok (.iconst 1, 1) := dk_4 (dk_at dksX0_read_0 8 rfl rfl)
theorem dX0_read_9 : decode cX0_read 9 = .ok (.invokevirtual 98, 3) := dk_182 0 98 (dk_at dksX0_read_0 9 rfl rfl)
theorem dX0_read_12 : decode cX0_read 12 = .ok (.i2l, 1) := dk_133 (dk_at dksX0_read_0 12 rfl rfl)
theorem dX0_read_13 : decode cX0_read 13 = .ok (.lreturn, 1) := dk_173 (dk_at dksX0_read_0 13 rfl rfl)
theorem dX0_read_14 : decode cX0_read 14 = .ok (.aload_n 0, 1) := dk_42 (dk_at dksX0_read_0 14 rfl rfl)
theorem dX0_read_15 : decode cX0_read 15 = .ok (.iconst 0, 1) := dk_3 (dk_at dksX0_read_0 15 rfl rfl)
theorem dX0_read_16 : decode cX0_read 16 = .ok (.putfield 92, 3) := dk_181 0 92 (dk_at dksX0_read_0 16 rfl rfl)
theorem dX0_read_19 : decode cX0_read 19 = .ok (.aload_n 0, 1) := dk_42 (dk_at dksX0_read_0 19 rfl rfl)
theorem dX0_read_20 : decode cX0_read 20 = .ok (.getfield 11, 3) := dk_180 0 11 (dk_at dksX0_read_0 20 rfl rfl)
theorem dX0_read_23 : decode cX0_read 23 = .ok (.iload_n 1, 1) := dk_27 (dk_at dksX0_read_0 23 rfl rfl)
theorem dX0_read_24 : decode cX0_read 24 = .ok (.aaload, 1) := dk_50 (dk_at dksX0_read_1 0 rfl rfl)
theorem dX0_read_25 : decode cX0_read 25 = .ok (.iload_n 2, 1) := dk_28 (dk_at dksX0_read_1 1 rfl rfl)
theorem dX0_read_26 : decode cX0_read 26 = .ok (.invokevirtual 126, 3) := dk_182 0 126 (dk_at dksX0_read_1 2 rfl rfl)
theorem dX0_read_29 : decode cX0_read 29 = .ok (.lreturn, 1) := dk_173 (dk_at dksX0_read_1 5 rfl rfl)
theorem dX0_read_30 : decode cX0_read 30 = .ok (.astore_n 3, 1) := dk_78 (dk_at dksX0_read_1 6 rfl rfl)
theorem dX0_read_31 : decode cX0_read 31 = .ok (.aload_n 0, 1) := dk_42 (dk_at dksX0_read_1 7 rfl rfl)
theorem dX0_read_32 : decode cX0_read 32 = .ok (.iconst 3, 1) := dk_6 (dk_at dksX0_read_1 8 rfl rfl)
theorem dX0_read_33 : decode cX0_read 33 = .ok (.putfield 92, 3) := dk_181 0 92 (dk_at dksX0_read_1 9 rfl rfl)
theorem dX0_read_36 : decode cX0_read 36 = .ok (.goto 9, 3) := dk_167 0 9 (dk_at dksX0_read_1 12 rfl rfl)
theorem dX0_read_39 : decode cX0_read 39 = .ok (.astore_n 3, 1) := dk_78 (dk_at dksX0_read_1 15 rfl rfl)
theorem dX0_read_40 : decode cX0_read 40 = .ok (.aload_n 0, 1) := dk_42 (dk_at dksX0_read_1 16 rfl rfl)
theorem dX0_read_41 : decode cX0_read 41 = .ok (.iconst 4, 1) := dk_7 (dk_at dksX0_read_1 17 rfl rfl)
theorem dX0_read_42 : decode cX0_read 42 = .ok (.putfield 92, 3) := dk_181 0 92 (dk_at dksX0_read_1 18 rfl rfl)
theorem dX0_read_45 : decode cX0_read 45 = .ok (.ldc2_w 130, 3) := dk_20 0 130 (dk_at dksX0_read_1 21 rfl rfl)
theorem dX0_read_48 : decode cX0_read 48 = .ok (.lreturn, 1) := dk_173 (dk_at dksX0_read_2 0 rfl rfl)
abbrev cX0_none : ByteArray := prog_1_method_8_code
def yX0_none : MethodName := ⟨RX0, "none", "(I)I"⟩
def dkwX0_none_0 : List UInt8 := [42, 27, 181, 0, 92, 2, 172]
abbrev dktX0_none_0 : List UInt8 := dkwX0_none_0 ++ []
theorem dksX0_none_0 : cX0_none.data.toList.drop 0 = dktX0_none_0 := by decide +kernel
theorem dX0_none_0 : decode cX0_none 0 = .ok (.aload_n 0, 1) := dk_42 (dk_at dksX0_none_0 0 rfl rfl)
theorem dX0_none_1 : decode cX0_none 1 = .ok (.iload_n 1, 1) := dk_27 (dk_at dksX0_none_0 1 rfl rfl)
theorem dX0_none_2 : decode cX0_none 2 = .ok (.putfield 92, 3) := dk_181 0 92 (dk_at dksX0_none_0 2 rfl rfl)
theorem dX0_none_5 : decode cX0_none 5 = .ok (.iconst (-1), 1) := dk_2 (dk_at dksX0_none_0 5 rfl rfl)
theorem dX0_none_6 : decode cX0_none 6 = .ok (.ireturn, 1) := dk_172 (dk_at dksX0_none_0 6 rfl rfl)
abbrev cX0_pour : ByteArray := prog_1_method_16_code
def yX0_pour : MethodName := ⟨RX0, "pour", "(IIIII)Z"⟩
def dkwX0_pour_5 : List UInt8 := [7, 182, 0, 105, 172, 42, 3, 182, 0, 105, 172]
abbrev dktX0_pour_5 : List UInt8 := dkwX0_pour_5 ++ []
def dkwX0_pour_4 : List UInt8 := [167, 0, 29, 58, 8, 42, 6, 182, 0, 105, 172, 58, 8, 42, 21, 5, 156, 0, 8, 16, 6, 167, 0, 4]
abbrev dktX0_pour_4 : List UInt8 := dkwX0_pour_4 ++ dktX0_pour_5
def dkwX0_pour_3 : List UInt8 := [159, 0, 10, 42, 16, 11, 182, 0, 105, 172, 25, 6, 28, 25, 7, 21, 4, 21, 5, 184, 0, 139]
abbrev dktX0_pour_3 : List UInt8 := dkwX0_pour_3 ++ dktX0_pour_4
def dkwX0_pour_2 : List UInt8 := [25, 7, 198, 0, 31, 42, 180, 0, 11, 27, 50, 180, 0, 136, 42, 180, 0, 11, 29, 50, 180, 0, 136]
abbrev dktX0_pour_2 : List UInt8 := dkwX0_pour_2 ++ dktX0_pour_3
def dkwX0_pour_1 : List UInt8 := [27, 50, 180, 0, 132, 58, 6, 42, 180, 0, 11, 29, 50, 180, 0, 132, 58, 7, 25, 6, 198, 0, 36]
abbrev dktX0_pour_1 : List UInt8 := dkwX0_pour_1 ++ dktX0_pour_2
def dkwX0_pour_0 : List UInt8 := [27, 184, 0, 109, 153, 0, 10, 29, 184, 0, 109, 154, 0, 9, 42, 4, 182, 0, 105, 172, 42, 180, 0, 11]
abbrev dktX0_pour_0 : List UInt8 := dkwX0_pour_0 ++ dktX0_pour_1
theorem dksX0_pour_0 : cX0_pour.data.toList.drop 0 = dktX0_pour_0 := by decide +kernel
theorem dksX0_pour_1 : cX0_pour.data.toList.drop 24 = dktX0_pour_1 := dk_seg dksX0_pour_0 24 rfl rfl
theorem dksX0_pour_2 : cX0_pour.data.toList.drop 47 = dktX0_pour_2 := dk_seg dksX0_pour_1 23 rfl rfl
theorem dksX0_pour_3 : cX0_pour.data.toList.drop 70 = dktX0_pour_3 := dk_seg dksX0_pour_2 23 rfl rfl
theorem dksX0_pour_4 : cX0_pour.data.toList.drop 92 = dktX0_pour_4 := dk_seg dksX0_pour_3 22 rfl rfl
theorem dksX0_pour_5 : cX0_pour.data.toList.drop 116 = dktX0_pour_5 := dk_seg dksX0_pour_4 24 rfl rfl
theorem dX0_pour_0 : decode cX0_pour 0 = .ok (.iload_n 1, 1) := dk_27 (dk_at dksX0_pour_0 0 rfl rfl)
theorem dX0_pour_1 : decode cX0_pour 1 = .ok (.invokestatic 109, 3) := dk_184 0 109 (dk_at dksX0_pour_0 1 rfl rfl)
theorem dX0_pour_4 : decode cX0_pour 4 = .ok (.ifCond .eq 10, 3) := dk_153 0 10 (dk_at dksX0_pour_0 4 rfl rfl)
theorem dX0_pour_7 : decode cX0_pour 7 = .ok (.iload_n 3, 1) := dk_29 (dk_at dksX0_pour_0 7 rfl rfl)
theorem dX0_pour_8 : decode cX0_pour 8 = .ok (.invokestatic 109, 3) := dk_184 0 109 (dk_at dksX0_pour_0 8 rfl rfl)
theorem dX0_pour_11 : decode cX0_pour 11 = .ok (.ifCond .ne 9, 3) := dk_154 0 9 (dk_at dksX0_pour_0 11 rfl rfl)
theorem dX0_pour_14 : decode cX0_pour 14 = .ok (.aload_n 0, 1) := dk_42 (dk_at dksX0_pour_0 14 rfl rfl)
theorem dX0_pour_15 : decode cX0_pour 15 = .ok (.iconst 1, 1) := dk_4 (dk_at dksX0_pour_0 15 rfl rfl)
theorem dX0_pour_16 : decode cX0_pour 16 = .ok (.invokevirtual 105, 3) := dk_182 0 105 (dk_at dksX0_pour_0 16 rfl rfl)
theorem dX0_pour_19 : decode cX0_pour 19 = .ok (.ireturn, 1) := dk_172 (dk_at dksX0_pour_0 19 rfl rfl)
theorem dX0_pour_20 : decode cX0_pour 20 = .ok (.aload_n 0, 1) := dk_42 (dk_at dksX0_pour_0 20 rfl rfl)
theorem dX0_pour_21 : decode cX0_pour 21 = .ok (.getfield 11, 3) := dk_180 0 11 (dk_at dksX0_pour_0 21 rfl rfl)
theorem dX0_pour_24 : decode cX0_pour 24 = .ok (.iload_n 1, 1) := dk_27 (dk_at dksX0_pour_1 0 rfl rfl)
theorem dX0_pour_25 : decode cX0_pour 25 = .ok (.aaload, 1) := dk_50 (dk_at dksX0_pour_1 1 rfl rfl)
theorem dX0_pour_26 : decode cX0_pour 26 = .ok (.getfield 132, 3) := dk_180 0 132 (dk_at dksX0_pour_1 2 rfl rfl)
theorem dX0_pour_29 : decode cX0_pour 29 = .ok (.astore 6, 2) := dk_58 6 (dk_at dksX0_pour_1 5 rfl rfl)
theorem dX0_pour_31 : decode cX0_pour 31 = .ok (.aload_n 0, 1) := dk_42 (dk_at dksX0_pour_1 7 rfl rfl)
theorem dX0_pour_32 : decode cX0_pour 32 = .ok (.getfield 11, 3) := dk_180 0 11 (dk_at dksX0_pour_1 8 rfl rfl)
theorem dX0_pour_35 : decode cX0_pour 35 = .ok (.iload_n 3, 1) := dk_29 (dk_at dksX0_pour_1 11 rfl rfl)
theorem dX0_pour_36 : decode cX0_pour 36 = .ok (.aaload, 1) := dk_50 (dk_at dksX0_pour_1 12 rfl rfl)
theorem dX0_pour_37 : decode cX0_pour 37 = .ok (.getfield 132, 3) := dk_180 0 132 (dk_at dksX0_pour_1 13 rfl rfl)
theorem dX0_pour_40 : decode cX0_pour 40 = .ok (.astore 7, 2) := dk_58 7 (dk_at dksX0_pour_1 16 rfl rfl)
theorem dX0_pour_42 : decode cX0_pour 42 = .ok (.aload 6, 2) := dk_25 6 (dk_at dksX0_pour_1 18 rfl rfl)
theorem dX0_pour_44 : decode cX0_pour 44 = .ok (.ifnull 36, 3) := dk_198 0 36 (dk_at dksX0_pour_1 20 rfl rfl)
theorem dX0_pour_47 : decode cX0_pour 47 = .ok (.aload 7, 2) := dk_25 7 (dk_at dksX0_pour_2 0 rfl rfl)
theorem dX0_pour_49 : decode cX0_pour 49 = .ok (.ifnull 31, 3) := dk_198 0 31 (dk_at dksX0_pour_2 2 rfl rfl)
theorem dX0_pour_52 : decode cX0_pour 52 = .ok (.aload_n 0, 1) := dk_42 (dk_at dksX0_pour_2 5 rfl rfl)
theorem dX0_pour_53 : decode cX0_pour 53 = .ok (.getfield 11, 3) := dk_180 0 11 (dk_at dksX0_pour_2 6 rfl rfl)
theorem dX0_pour_56 : decode cX0_pour 56 = .ok (.iload_n 1, 1) := dk_27 (dk_at dksX0_pour_2 9 rfl rfl)
theorem dX0_pour_57 : decode cX0_pour 57 = .ok (.aaload, 1) := dk_50 (dk_at dksX0_pour_2 10 rfl rfl)
theorem dX0_pour_58 : decode cX0_pour 58 = .ok (.getfield 136, 3) := dk_180 0 136 (dk_at dksX0_pour_2 11 rfl rfl)
theorem dX0_pour_61 : decode cX0_pour 61 = .ok (.aload_n 0, 1) := dk_42 (dk_at dksX0_pour_2 14 rfl rfl)
theorem dX0_pour_62 : decode cX0_pour 62 = .ok (.getfield 11, 3) := dk_180 0 11 (dk_at dksX0_pour_2 15 rfl rfl)
theorem dX0_pour_65 : decode cX0_pour 65 = .ok (.iload_n 3, 1) := dk_29 (dk_at dksX0_pour_2 18 rfl rfl)
theorem dX0_pour_66 : decode cX0_pour 66 = .ok (.aaload, 1) := dk_50 (dk_at dksX0_pour_2 19 rfl rfl)
theorem dX0_pour_67 : decode cX0_pour 67 = .ok (.getfield 136, 3) := dk_180 0 136 (dk_at dksX0_pour_2 20 rfl rfl)
theorem dX0_pour_70 : decode cX0_pour 70 = .ok (.if_icmp .eq 10, 3) := dk_159 0 10 (dk_at dksX0_pour_3 0 rfl rfl)
theorem dX0_pour_73 : decode cX0_pour 73 = .ok (.aload_n 0, 1) := dk_42 (dk_at dksX0_pour_3 3 rfl rfl)
theorem dX0_pour_74 : decode cX0_pour 74 = .ok (.bipush 11, 2) := dk_16 11 (dk_at dksX0_pour_3 4 rfl rfl)
theorem dX0_pour_76 : decode cX0_pour 76 = .ok (.invokevirtual 105, 3) := dk_182 0 105 (dk_at dksX0_pour_3 6 rfl rfl)
theorem dX0_pour_79 : decode cX0_pour 79 = .ok (.ireturn, 1) := dk_172 (dk_at dksX0_pour_3 9 rfl rfl)
theorem dX0_pour_80 : decode cX0_pour 80 = .ok (.aload 6, 2) := dk_25 6 (dk_at dksX0_pour_3 10 rfl rfl)
theorem dX0_pour_82 : decode cX0_pour 82 = .ok (.iload_n 2, 1) := dk_28 (dk_at dksX0_pour_3 12 rfl rfl)
theorem dX0_pour_83 : decode cX0_pour 83 = .ok (.aload 7, 2) := dk_25 7 (dk_at dksX0_pour_3 13 rfl rfl)
theorem dX0_pour_85 : decode cX0_pour 85 = .ok (.iload 4, 2) := dk_21 4 (dk_at dksX0_pour_3 15 rfl rfl)
theorem dX0_pour_87 : decode cX0_pour 87 = .ok (.iload 5, 2) := dk_21 5 (dk_at dksX0_pour_3 17 rfl rfl)
theorem dX0_pour_89 : decode cX0_pour 89 = .ok (.invokestatic 139, 3) := dk_184 0 139 (dk_at dksX0_pour_3 19 rfl rfl)
theorem dX0_pour_92 : decode cX0_pour 92 = .ok (.goto 29, 3) := dk_167 0 29 (dk_at dksX0_pour_4 0 rfl rfl)
theorem dX0_pour_95 : decode cX0_pour 95 = .ok (.astore 8, 2) := dk_58 8 (dk_at dksX0_pour_4 3 rfl rfl)
theorem dX0_pour_97 : decode cX0_pour 97 = .ok (.aload_n 0, 1) := dk_42 (dk_at dksX0_pour_4 5 rfl rfl)
theorem dX0_pour_98 : decode cX0_pour 98 = .ok (.iconst 3, 1) := dk_6 (dk_at dksX0_pour_4 6 rfl rfl)
theorem dX0_pour_99 : decode cX0_pour 99 = .ok (.invokevirtual 105, 3) := dk_182 0 105 (dk_at dksX0_pour_4 7 rfl rfl)
theorem dX0_pour_102 : decode cX0_pour 102 = .ok (.ireturn, 1) := dk_172 (dk_at dksX0_pour_4 10 rfl rfl)
theorem dX0_pour_103 : decode cX0_pour 103 = .ok (.astore 8, 2) := dk_58 8 (dk_at dksX0_pour_4 11 rfl rfl)
theorem dX0_pour_105 : decode cX0_pour 105 = .ok (.aload_n 0, 1) := dk_42 (dk_at dksX0_pour_4 13 rfl rfl)
theorem dX0_pour_106 : decode cX0_pour 106 = .ok (.iload 5, 2) := dk_21 5 (dk_at dksX0_pour_4 14 rfl rfl)
theorem dX0_pour_108 : decode cX0_pour 108 = .ok (.ifCond .ge 8, 3) := dk_156 0 8 (dk_at dksX0_pour_4 16 rfl rfl)
theorem dX0_pour_111 : decode cX0_pour 111 = .ok (.bipush 6, 2) := dk_16 6 (dk_at dksX0_pour_4 19 rfl rfl)
theorem dX0_pour_113 : decode cX0_pour 113 = .ok (.goto 4, 3) := dk_167 0 4 (dk_at dksX0_pour_4 21 rfl rfl)
theorem dX0_pour_116 : decode cX0_pour 116 = .ok (.iconst 4, 1) := dk_7 (dk_at dksX0_pour_5 0 rfl rfl)
theorem dX0_pour_117 : decode cX0_pour 117 = .ok (.invokevirtual 105, 3) := dk_182 0 105 (dk_at dksX0_pour_5 1 rfl rfl)
theorem dX0_pour_120 : decode cX0_pour 120 = .ok (.ireturn, 1) := dk_172 (dk_at dksX0_pour_5 4 rfl rfl)
theorem dX0_pour_121 : decode cX0_pour 121 = .ok (.aload_n 0, 1) := dk_42 (dk_at dksX0_pour_5 5 rfl rfl)
theorem dX0_pour_122 : decode cX0_pour 122 = .ok (.iconst 0, 1) := dk_3 (dk_at dksX0_pour_5 6 rfl rfl)
theorem dX0_pour_123 : decode cX0_pour 123 = .ok (.invokevirtual 105, 3) := dk_182 0 105 (dk_at dksX0_pour_5 7 rfl rfl)
theorem dX0_pour_126 : decode cX0_pour 126 = .ok (.ireturn, 1) := dk_172 (dk_at dksX0_pour_5 10 rfl rfl)
abbrev cX0_feed : ByteArray := prog_1_method_24_code
def yX0_feed : MethodName := ⟨RX0, "feed", "(IIIII)I"⟩
def dkwX0_feed_2 : List UInt8 := [180, 0, 23, 180, 0, 168, 172]
abbrev dktX0_feed_2 : List UInt8 := dkwX0_feed_2 ++ []
def dkwX0_feed_1 : List UInt8 := [28, 182, 0, 171, 42, 29, 182, 0, 171, 42, 21, 4, 182, 0, 171, 42, 21, 5, 182, 0, 171, 42]
abbrev dktX0_feed_1 : List UInt8 := dkwX0_feed_1 ++ dktX0_feed_2
def dkwX0_feed_0 : List UInt8 := [42, 180, 0, 23, 180, 0, 168, 16, 20, 96, 17, 3, 132, 164, 0, 5, 2, 172, 42, 27, 182, 0, 171, 42]
abbrev dktX0_feed_0 : List UInt8 := dkwX0_feed_0 ++ dktX0_feed_1
theorem dksX0_feed_0 : cX0_feed.data.toList.drop 0 = dktX0_feed_0 := by decide +kernel
theorem dksX0_feed_1 : cX0_feed.data.toList.drop 24 = dktX0_feed_1 := dk_seg dksX0_feed_0 24 rfl rfl
theorem dksX0_feed_2 : cX0_feed.data.toList.drop 46 = dktX0_feed_2 := dk_seg dksX0_feed_1 22 rfl rfl
theorem dX0_feed_0 : decode cX0_feed 0 = .ok (.aload_n 0, 1) := dk_42 (dk_at dksX0_feed_0 0 rfl rfl)
theorem dX0_feed_1 : decode cX0_feed 1 = .ok (.getfield 23, 3) := dk_180 0 23 (dk_at dksX0_feed_0 1 rfl rfl)
theorem dX0_feed_4 : decode cX0_feed 4 = .ok (.getfield 168, 3) := dk_180 0 168 (dk_at dksX0_feed_0 4 rfl rfl)
theorem dX0_feed_7 : decode cX0_feed 7 = .ok (.bipush 20, 2) := dk_16 20 (dk_at dksX0_feed_0 7 rfl rfl)
theorem dX0_feed_9 : decode cX0_feed 9 = .ok (.iadd, 1) := dk_96 (dk_at dksX0_feed_0 9 rfl rfl)
theorem dX0_feed_10 : decode cX0_feed 10 = .ok (.sipush 900, 3) := dk_17 3 132 (dk_at dksX0_feed_0 10 rfl rfl)
theorem dX0_feed_13 : decode cX0_feed 13 = .ok (.if_icmp .le 5, 3) := dk_164 0 5 (dk_at dksX0_feed_0 13 rfl rfl)
theorem dX0_feed_16 : decode cX0_feed 16 = .ok (.iconst (-1), 1) := dk_2 (dk_at dksX0_feed_0 16 rfl rfl)
theorem dX0_feed_17 : decode cX0_feed 17 = .ok (.ireturn, 1) := dk_172 (dk_at dksX0_feed_0 17 rfl rfl)
theorem dX0_feed_18 : decode cX0_feed 18 = .ok (.aload_n 0, 1) := dk_42 (dk_at dksX0_feed_0 18 rfl rfl)
theorem dX0_feed_19 : decode cX0_feed 19 = .ok (.iload_n 1, 1) := dk_27 (dk_at dksX0_feed_0 19 rfl rfl)
theorem dX0_feed_20 : decode cX0_feed 20 = .ok (.invokevirtual 171, 3) := dk_182 0 171 (dk_at dksX0_feed_0 20 rfl rfl)
theorem dX0_feed_23 : decode cX0_feed 23 = .ok (.aload_n 0, 1) := dk_42 (dk_at dksX0_feed_0 23 rfl rfl)
theorem dX0_feed_24 : decode cX0_feed 24 = .ok (.iload_n 2, 1) := dk_28 (dk_at dksX0_feed_1 0 rfl rfl)
theorem dX0_feed_25 : decode cX0_feed 25 = .ok (.invokevirtual 171, 3) := dk_182 0 171 (dk_at dksX0_feed_1 1 rfl rfl)
theorem dX0_feed_28 : decode cX0_feed 28 = .ok (.aload_n 0, 1) := dk_42 (dk_at dksX0_feed_1 4 rfl rfl)
theorem dX0_feed_29 : decode cX0_feed 29 = .ok (.iload_n 3, 1) := dk_29 (dk_at dksX0_feed_1 5 rfl rfl)
theorem dX0_feed_30 : decode cX0_feed 30 = .ok (.invokevirtual 171, 3) := dk_182 0 171 (dk_at dksX0_feed_1 6 rfl rfl)
theorem dX0_feed_33 : decode cX0_feed 33 = .ok (.aload_n 0, 1) := dk_42 (dk_at dksX0_feed_1 9 rfl rfl)
theorem dX0_feed_34 : decode cX0_feed 34 = .ok (.iload 4, 2) := dk_21 4 (dk_at dksX0_feed_1 10 rfl rfl)
theorem dX0_feed_36 : decode cX0_feed 36 = .ok (.invokevirtual 171, 3) := dk_182 0 171 (dk_at dksX0_feed_1 12 rfl rfl)
theorem dX0_feed_39 : decode cX0_feed 39 = .ok (.aload_n 0, 1) := dk_42 (dk_at dksX0_feed_1 15 rfl rfl)
theorem dX0_feed_40 : decode cX0_feed 40 = .ok (.iload 5, 2) := dk_21 5 (dk_at dksX0_feed_1 16 rfl rfl)
theorem dX0_feed_42 : decode cX0_feed 42 = .ok (.invokevirtual 171, 3) := dk_182 0 171 (dk_at dksX0_feed_1 18 rfl rfl)
theorem dX0_feed_45 : decode cX0_feed 45 = .ok (.aload_n 0, 1) := dk_42 (dk_at dksX0_feed_1 21 rfl rfl)
theorem dX0_feed_46 : decode cX0_feed 46 = .ok (.getfield 23, 3) := dk_180 0 23 (dk_at dksX0_feed_2 0 rfl rfl)
theorem dX0_feed_49 : decode cX0_feed 49 = .ok (.getfield 168, 3) := dk_180 0 168 (dk_at dksX0_feed_2 3 rfl rfl)
theorem dX0_feed_52 : decode cX0_feed 52 = .ok (.ireturn, 1) := dk_172 (dk_at dksX0_feed_2 6 rfl rfl)
abbrev cX0_four : ByteArray := prog_1_method_25_code
def yX0_four : MethodName := ⟨RX0, "four", "(I)V"⟩
def dkwX0_four_1 : List UInt8 := [145, 84, 42, 180, 0, 23, 89, 180, 0, 168, 4, 96, 181, 0, 168, 132, 2, 248, 167, 255, 217, 177]
abbrev dktX0_four_1 : List UInt8 := dkwX0_four_1 ++ []
def dkwX0_four_0 : List UInt8 := [16, 24, 61, 28, 155, 0, 41, 42, 180, 0, 23, 180, 0, 175, 42, 180, 0, 23, 180, 0, 168, 27, 28, 122]
abbrev dktX0_four_0 : List UInt8 := dkwX0_four_0 ++ dktX0_four_1
theorem dksX0_four_0 : cX0_four.data.toList.drop 0 = dktX0_four_0 := by decide +kernel
theorem dksX0_four_1 : cX0_four.data.toList.drop 24 = dktX0_four_1 := dk_seg dksX0_four_0 24 rfl rfl
theorem dX0_four_0 : decode cX0_four 0 = .ok (.bipush 24, 2) := dk_16 24 (dk_at dksX0_four_0 0 rfl rfl)
theorem dX0_four_2 : decode cX0_four 2 = .ok (.istore_n 2, 1) := dk_61 (dk_at dksX0_four_0 2 rfl rfl)
theorem dX0_four_3 : decode cX0_four 3 = .ok (.iload_n 2, 1) := dk_28 (dk_at dksX0_four_0 3 rfl rfl)
theorem dX0_four_4 : decode cX0_four 4 = .ok (.ifCond .lt 41, 3) := dk_155 0 41 (dk_at dksX0_four_0 4 rfl rfl)
theorem dX0_four_7 : decode cX0_four 7 = .ok (.aload_n 0, 1) := dk_42 (dk_at dksX0_four_0 7 rfl rfl)
theorem dX0_four_8 : decode cX0_four 8 = .ok (.getfield 23, 3) := dk_180 0 23 (dk_at dksX0_four_0 8 rfl rfl)
theorem dX0_four_11 : decode cX0_four 11 = .ok (.getfield 175, 3) := dk_180 0 175 (dk_at dksX0_four_0 11 rfl rfl)
theorem dX0_four_14 : decode cX0_four 14 = .ok (.aload_n 0, 1) := dk_42 (dk_at dksX0_four_0 14 rfl rfl)
theorem dX0_four_15 : decode cX0_four 15 = .ok (.getfield 23, 3) := dk_180 0 23 (dk_at dksX0_four_0 15 rfl rfl)
theorem dX0_four_18 : decode cX0_four 18 = .ok (.getfield 168, 3) := dk_180 0 168 (dk_at dksX0_four_0 18 rfl rfl)
theorem dX0_four_21 : decode cX0_four 21 = .ok (.iload_n 1, 1) := dk_27 (dk_at dksX0_four_0 21 rfl rfl)
theorem dX0_four_22 : decode cX0_four 22 = .ok (.iload_n 2, 1) := dk_28 (dk_at dksX0_four_0 22 rfl rfl)
theorem dX0_four_23 : decode cX0_four 23 = .ok (.ishr, 1) := dk_122 (dk_at dksX0_four_0 23 rfl rfl)
theorem dX0_four_24 : decode cX0_four 24 = .ok (.i2b, 1) := dk_145 (dk_at dksX0_four_1 0 rfl rfl)
theorem dX0_four_25 : decode cX0_four 25 = .ok (.bastore, 1) := dk_84 (dk_at dksX0_four_1 1 rfl rfl)
theorem dX0_four_26 : decode cX0_four 26 = .ok (.aload_n 0, 1) := dk_42 (dk_at dksX0_four_1 2 rfl rfl)
theorem dX0_four_27 : decode cX0_four 27 = .ok (.getfield 23, 3) := dk_180 0 23 (dk_at dksX0_four_1 3 rfl rfl)
theorem dX0_four_30 : decode cX0_four 30 = .ok (.dup, 1) := dk_89 (dk_at dksX0_four_1 6 rfl rfl)
theorem dX0_four_31 : decode cX0_four 31 = .ok (.getfield 168, 3) := dk_180 0 168 (dk_at dksX0_four_1 7 rfl rfl)
theorem dX0_four_34 : decode cX0_four 34 = .ok (.iconst 1, 1) := dk_4 (dk_at dksX0_four_1 10 rfl rfl)
theorem dX0_four_35 : decode cX0_four 35 = .ok (.iadd, 1) := dk_96 (dk_at dksX0_four_1 11 rfl rfl)
theorem dX0_four_36 : decode cX0_four 36 = .ok (.putfield 168, 3) := dk_181 0 168 (dk_at dksX0_four_1 12 rfl rfl)
theorem dX0_four_39 : decode cX0_four 39 = .ok (.iinc 2 (-8), 3) := dk_132 2 248 (dk_at dksX0_four_1 15 rfl rfl)
theorem dX0_four_42 : decode cX0_four 42 = .ok (.goto (-39), 3) := dk_167 255 217 (dk_at dksX0_four_1 18 rfl rfl)
theorem dX0_four_45 : decode cX0_four 45 = .ok (.return_, 1) := dk_177 (dk_at dksX0_four_1 21 rfl rfl)
abbrev cX0_province : ByteArray := prog_1_method_28_code
def yX0_province : MethodName := ⟨RX0, "province", "(I)I"⟩
def dkwX0_province_2 : List UInt8 := [181, 0, 200, 42, 42, 180, 0, 38, 180, 0, 152, 182, 0, 102, 172]
abbrev dktX0_province_2 : List UInt8 := dkwX0_province_2 ++ []
def dkwX0_province_1 : List UInt8 := [182, 0, 189, 181, 0, 38, 167, 0, 10, 77, 42, 44, 182, 0, 192, 172, 42, 1, 181, 0, 196, 42, 3]
abbrev dktX0_province_1 : List UInt8 := dkwX0_province_1 ++ dktX0_province_2
def dkwX0_province_0 : List UInt8 := [42, 27, 17, 3, 132, 182, 0, 185, 154, 0, 9, 42, 8, 182, 0, 98, 172, 42, 42, 180, 0, 23, 27]
abbrev dktX0_province_0 : List UInt8 := dkwX0_province_0 ++ dktX0_province_1
theorem dksX0_province_0 : cX0_province.data.toList.drop 0 = dktX0_province_0 := by decide +kernel
theorem dksX0_province_1 : cX0_province.data.toList.drop 23 = dktX0_province_1 := dk_seg dksX0_province_0 23 rfl rfl
theorem dksX0_province_2 : cX0_province.data.toList.drop 46 = dktX0_province_2 := dk_seg dksX0_province_1 23 rfl rfl
theorem dX0_province_0 : decode cX0_province 0 = .ok (.aload_n 0, 1) := dk_42 (dk_at dksX0_province_0 0 rfl rfl)
theorem dX0_province_1 : decode cX0_province 1 = .ok (.iload_n 1, 1) := dk_27 (dk_at dksX0_province_0 1 rfl rfl)
theorem dX0_province_2 : decode cX0_province 2 = .ok (.sipush 900, 3) := dk_17 3 132 (dk_at dksX0_province_0 2 rfl rfl)
theorem dX0_province_5 : decode cX0_province 5 = .ok (.invokevirtual 185, 3) := dk_182 0 185 (dk_at dksX0_province_0 5 rfl rfl)
theorem dX0_province_8 : decode cX0_province 8 = .ok (.ifCond .ne 9, 3) := dk_154 0 9 (dk_at dksX0_province_0 8 rfl rfl)
theorem dX0_province_11 : decode cX0_province 11 = .ok (.aload_n 0, 1) := dk_42 (dk_at dksX0_province_0 11 rfl rfl)
theorem dX0_province_12 : decode cX0_province 12 = .ok (.iconst 5, 1) := dk_8 (dk_at dksX0_province_0 12 rfl rfl)
theorem dX0_province_13 : decode cX0_province 13 = .ok (.invokevirtual 98, 3) := dk_182 0 98 (dk_at dksX0_province_0 13 rfl rfl)
theorem dX0_province_16 : decode cX0_province 16 = .ok (.ireturn, 1) := dk_172 (dk_at dksX0_province_0 16 rfl rfl)
theorem dX0_province_17 : decode cX0_province 17 = .ok (.aload_n 0, 1) := dk_42 (dk_at dksX0_province_0 17 rfl rfl)
theorem dX0_province_18 : decode cX0_province 18 = .ok (.aload_n 0, 1) := dk_42 (dk_at dksX0_province_0 18 rfl rfl)
theorem dX0_province_19 : decode cX0_province 19 = .ok (.getfield 23, 3) := dk_180 0 23 (dk_at dksX0_province_0 19 rfl rfl)
theorem dX0_province_22 : decode cX0_province 22 = .ok (.iload_n 1, 1) := dk_27 (dk_at dksX0_province_0 22 rfl rfl)
theorem dX0_province_23 : decode cX0_province 23 = .ok (.invokevirtual 189, 3) := dk_182 0 189 (dk_at dksX0_province_1 0 rfl rfl)
theorem dX0_province_26 : decode cX0_province 26 = .ok (.putfield 38, 3) := dk_181 0 38 (dk_at dksX0_province_1 3 rfl rfl)
theorem dX0_province_29 : decode cX0_province 29 = .ok (.goto 10, 3) := dk_167 0 10 (dk_at dksX0_province_1 6 rfl rfl)
theorem dX0_province_32 : decode cX0_province 32 = .ok (.astore_n 2, 1) := dk_77 (dk_at dksX0_province_1 9 rfl rfl)
theorem dX0_province_33 : decode cX0_province 33 = .ok (.aload_n 0, 1) := dk_42 (dk_at dksX0_province_1 10 rfl rfl)
theorem dX0_province_34 : decode cX0_province 34 = .ok (.aload_n 2, 1) := dk_44 (dk_at dksX0_province_1 11 rfl rfl)
theorem dX0_province_35 : decode cX0_province 35 = .ok (.invokevirtual 192, 3) := dk_182 0 192 (dk_at dksX0_province_1 12 rfl rfl)
theorem dX0_province_38 : decode cX0_province 38 = .ok (.ireturn, 1) := dk_172 (dk_at dksX0_province_1 15 rfl rfl)
theorem dX0_province_39 : decode cX0_province 39 = .ok (.aload_n 0, 1) := dk_42 (dk_at dksX0_province_1 16 rfl rfl)
theorem dX0_province_40 : decode cX0_province 40 = .ok (.aconst_null, 1) := dk_1 (dk_at dksX0_province_1 17 rfl rfl)
theorem dX0_province_41 : decode cX0_province 41 = .ok (.putfield 196, 3) := dk_181 0 196 (dk_at dksX0_province_1 18 rfl rfl)
theorem dX0_province_44 : decode cX0_province 44 = .ok (.aload_n 0, 1) := dk_42 (dk_at dksX0_province_1 21 rfl rfl)
theorem dX0_province_45 : decode cX0_province 45 = .ok (.iconst 0, 1) := dk_3 (dk_at dksX0_province_1 22 rfl rfl)
theorem dX0_province_46 : decode cX0_province 46 = .ok (.putfield 200, 3) := dk_181 0 200 (dk_at dksX0_province_2 0 rfl rfl)
theorem dX0_province_49 : decode cX0_province 49 = .ok (.aload_n 0, 1) := dk_42 (dk_at dksX0_province_2 3 rfl rfl)
theorem dX0_province_50 : decode cX0_province 50 = .ok (.aload_n 0, 1) := dk_42 (dk_at dksX0_province_2 4 rfl rfl)
theorem dX0_province_51 : decode cX0_province 51 = .ok (.getfield 38, 3) := dk_180 0 38 (dk_at dksX0_province_2 5 rfl rfl)
theorem dX0_province_54 : decode cX0_province 54 = .ok (.getfield 152, 3) := dk_180 0 152 (dk_at dksX0_province_2 8 rfl rfl)
theorem dX0_province_57 : decode cX0_province 57 = .ok (.invokevirtual 102, 3) := dk_182 0 102 (dk_at dksX0_province_2 11 rfl rfl)
theorem dX0_province_60 : decode cX0_province 60 = .ok (.ireturn, 1) := dk_172 (dk_at dksX0_province_2 14 rfl rfl)
abbrev cX0_accepts : ByteArray := prog_1_method_26_code
def yX0_accepts : MethodName := ⟨RX0, "accepts", "(II)Z"⟩
def dkwX0_accepts_1 : List UInt8 := [180, 0, 23, 3, 181, 0, 168, 42, 3, 181, 0, 42, 42, 2, 181, 0, 46, 4, 172]
abbrev dktX0_accepts_1 : List UInt8 := dkwX0_accepts_1 ++ []
def dkwX0_accepts_0 : List UInt8 := [27, 155, 0, 19, 27, 42, 180, 0, 23, 180, 0, 168, 163, 0, 8, 27, 28, 164, 0, 5, 3, 172, 42]
abbrev dktX0_accepts_0 : List UInt8 := dkwX0_accepts_0 ++ dktX0_accepts_1
theorem dksX0_accepts_0 : cX0_accepts.data.toList.drop 0 = dktX0_accepts_0 := by decide +kernel
theorem dksX0_accepts_1 : cX0_accepts.data.toList.drop 23 = dktX0_accepts_1 := dk_seg dksX0_accepts_0 23 rfl rfl
theorem dX0_accepts_0 : decode cX0_accepts 0 = .ok (.iload_n 1, 1) := dk_27 (dk_at dksX0_accepts_0 0 rfl rfl)
theorem dX0_accepts_1 : decode cX0_accepts 1 = .ok (.ifCond .lt 19, 3) := dk_155 0 19 (dk_at dksX0_accepts_0 1 rfl rfl)
theorem dX0_accepts_4 : decode cX0_accepts 4 = .ok (.iload_n 1, 1) := dk_27 (dk_at dksX0_accepts_0 4 rfl rfl)
theorem dX0_accepts_5 : decode cX0_accepts 5 = .ok (.aload_n 0, 1) := dk_42 (dk_at dksX0_accepts_0 5 rfl rfl)
theorem dX0_accepts_6 : decode cX0_accepts 6 = .ok (.getfield 23, 3) := dk_180 0 23 (dk_at dksX0_accepts_0 6 rfl rfl)
theorem dX0_accepts_9 : decode cX0_accepts 9 = .ok (.getfield 168, 3) := dk_180 0 168 (dk_at dksX0_accepts_0 9 rfl rfl)
theorem dX0_accepts_12 : decode cX0_accepts 12 = .ok (.if_icmp .gt 8, 3) := dk_163 0 8 (dk_at dksX0_accepts_0 12 rfl rfl)
theorem dX0_accepts_15 : decode cX0_accepts 15 = .ok (.iload_n 1, 1) := dk_27 (dk_at dksX0_accepts_0 15 rfl rfl)
theorem dX0_accepts_16 : decode cX0_accepts 16 = .ok (.iload_n 2, 1) := dk_28 (dk_at dksX0_accepts_0 16 rfl rfl)
theorem dX0_accepts_17 : decode cX0_accepts 17 = .ok (.if_icmp .le 5, 3) := dk_164 0 5 (dk_at dksX0_accepts_0 17 rfl rfl)
theorem dX0_accepts_20 : decode cX0_accepts 20 = .ok (.iconst 0, 1) := dk_3 (dk_at dksX0_accepts_0 20 rfl rfl)
theorem dX0_accepts_21 : decode cX0_accepts 21 = .ok (.ireturn, 1) := dk_172 (dk_at dksX0_accepts_0 21 rfl rfl)
theorem dX0_accepts_22 : decode cX0_accepts 22 = .ok (.aload_n 0, 1) := dk_42 (dk_at dksX0_accepts_0 22 rfl rfl)
theorem dX0_accepts_23 : decode cX0_accepts 23 = .ok (.getfield 23, 3) := dk_180 0 23 (dk_at dksX0_accepts_1 0 rfl rfl)
theorem dX0_accepts_26 : decode cX0_accepts 26 = .ok (.iconst 0, 1) := dk_3 (dk_at dksX0_accepts_1 3 rfl rfl)
theorem dX0_accepts_27 : decode cX0_accepts 27 = .ok (.putfield 168, 3) := dk_181 0 168 (dk_at dksX0_accepts_1 4 rfl rfl)
theorem dX0_accepts_30 : decode cX0_accepts 30 = .ok (.aload_n 0, 1) := dk_42 (dk_at dksX0_accepts_1 7 rfl rfl)
theorem dX0_accepts_31 : decode cX0_accepts 31 = .ok (.iconst 0, 1) := dk_3 (dk_at dksX0_accepts_1 8 rfl rfl)
theorem dX0_accepts_32 : decode cX0_accepts 32 = .ok (.putfield 42, 3) := dk_181 0 42 (dk_at dksX0_accepts_1 9 rfl rfl)
theorem dX0_accepts_35 : decode cX0_accepts 35 = .ok (.aload_n 0, 1) := dk_42 (dk_at dksX0_accepts_1 12 rfl rfl)
theorem dX0_accepts_36 : decode cX0_accepts 36 = .ok (.iconst (-1), 1) := dk_2 (dk_at dksX0_accepts_1 13 rfl rfl)
theorem dX0_accepts_37 : decode cX0_accepts 37 = .ok (.putfield 46, 3) := dk_181 0 46 (dk_at dksX0_accepts_1 14 rfl rfl)
theorem dX0_accepts_40 : decode cX0_accepts 40 = .ok (.iconst 1, 1) := dk_4 (dk_at dksX0_accepts_1 17 rfl rfl)
theorem dX0_accepts_41 : decode cX0_accepts 41 = .ok (.ireturn, 1) := dk_172 (dk_at dksX0_accepts_1 18 rfl rfl)
abbrev cX0_isIn : ByteArray := prog_1_method_2_code
def yX0_isIn : MethodName := ⟨RX0, "isIn", "(II)Z"⟩
def dkwX0_isIn_0 : List UInt8 := [26, 27, 122, 4, 126, 4, 160, 0, 7, 4, 167, 0, 4, 3, 172]
abbrev dktX0_isIn_0 : List UInt8 := dkwX0_isIn_0 ++ []
theorem dksX0_isIn_0 : cX0_isIn.data.toList.drop 0 = dktX0_isIn_0 := by decide +kernel
theorem dX0_isIn_0 : decode cX0_isIn 0 = .ok (.iload_n 0, 1) := dk_26 (dk_at dksX0_isIn_0 0 rfl rfl)
theorem dX0_isIn_1 : decode cX0_isIn 1 = .ok (.iload_n 1, 1) := dk_27 (dk_at dksX0_isIn_0 1 rfl rfl)
theorem dX0_isIn_2 : decode cX0_isIn 2 = .ok (.ishr, 1) := dk_122 (dk_at dksX0_isIn_0 2 rfl rfl)
theorem dX0_isIn_3 : decode cX0_isIn 3 = .ok (.iconst 1, 1) := dk_4 (dk_at dksX0_isIn_0 3 rfl rfl)
theorem dX0_isIn_4 : decode cX0_isIn 4 = .ok (.iand, 1) := dk_126 (dk_at dksX0_isIn_0 4 rfl rfl)
theorem dX0_isIn_5 : decode cX0_isIn 5 = .ok (.iconst 1, 1) := dk_4 (dk_at dksX0_isIn_0 5 rfl rfl)
theorem dX0_isIn_6 : decode cX0_isIn 6 = .ok (.if_icmp .ne 7, 3) := dk_160 0 7 (dk_at dksX0_isIn_0 6 rfl rfl)
theorem dX0_isIn_9 : decode cX0_isIn 9 = .ok (.iconst 1, 1) := dk_4 (dk_at dksX0_isIn_0 9 rfl rfl)
theorem dX0_isIn_10 : decode cX0_isIn 10 = .ok (.goto 4, 3) := dk_167 0 4 (dk_at dksX0_isIn_0 10 rfl rfl)
theorem dX0_isIn_13 : decode cX0_isIn 13 = .ok (.iconst 0, 1) := dk_3 (dk_at dksX0_isIn_0 13 rfl rfl)
theorem dX0_isIn_14 : decode cX0_isIn 14 = .ok (.ireturn, 1) := dk_172 (dk_at dksX0_isIn_0 14 rfl rfl)
abbrev cX0_refused : ByteArray := prog_1_method_27_code
def yX0_refused : MethodName := ⟨RX0, "refused", "(LHairProvince$Wrong;)I"⟩
def dkwX0_refused_0 : List UInt8 := [42, 43, 180, 0, 179, 181, 0, 42, 42, 43, 180, 0, 182, 181, 0, 46, 42, 16, 10, 182, 0, 98, 172]
abbrev dktX0_refused_0 : List UInt8 := dkwX0_refused_0 ++ []
theorem dksX0_refused_0 : cX0_refused.data.toList.drop 0 = dktX0_refused_0 := by decide +kernel
theorem dX0_refused_0 : decode cX0_refused 0 = .ok (.aload_n 0, 1) := dk_42 (dk_at dksX0_refused_0 0 rfl rfl)
theorem dX0_refused_1 : decode cX0_refused 1 = .ok (.aload_n 1, 1) := dk_43 (dk_at dksX0_refused_0 1 rfl rfl)
theorem dX0_refused_2 : decode cX0_refused 2 = .ok (.getfield 179, 3) := dk_180 0 179 (dk_at dksX0_refused_0 2 rfl rfl)
theorem dX0_refused_5 : decode cX0_refused 5 = .ok (.putfield 42, 3) := dk_181 0 42 (dk_at dksX0_refused_0 5 rfl rfl)
theorem dX0_refused_8 : decode cX0_refused 8 = .ok (.aload_n 0, 1) := dk_42 (dk_at dksX0_refused_0 8 rfl rfl)
theorem dX0_refused_9 : decode cX0_refused 9 = .ok (.aload_n 1, 1) := dk_43 (dk_at dksX0_refused_0 9 rfl rfl)
theorem dX0_refused_10 : decode cX0_refused 10 = .ok (.getfield 182, 3) := dk_180 0 182 (dk_at dksX0_refused_0 10 rfl rfl)
theorem dX0_refused_13 : decode cX0_refused 13 = .ok (.putfield 46, 3) := dk_181 0 46 (dk_at dksX0_refused_0 13 rfl rfl)
theorem dX0_refused_16 : decode cX0_refused 16 = .ok (.aload_n 0, 1) := dk_42 (dk_at dksX0_refused_0 16 rfl rfl)
theorem dX0_refused_17 : decode cX0_refused 17 = .ok (.bipush 10, 2) := dk_16 10 (dk_at dksX0_refused_0 17 rfl rfl)
theorem dX0_refused_19 : decode cX0_refused 19 = .ok (.invokevirtual 98, 3) := dk_182 0 98 (dk_at dksX0_refused_0 19 rfl rfl)
theorem dX0_refused_22 : decode cX0_refused 22 = .ok (.ireturn, 1) := dk_172 (dk_at dksX0_refused_0 22 rfl rfl)
abbrev cX0_gives : ByteArray := prog_1_method_9_code
def yX0_gives : MethodName := ⟨RX0, "gives", "(I)I"⟩
def dkwX0_gives_0 : List UInt8 := [42, 3, 181, 0, 92, 27, 172]
abbrev dktX0_gives_0 : List UInt8 := dkwX0_gives_0 ++ []
theorem dksX0_gives_0 : cX0_gives.data.toList.drop 0 = dktX0_gives_0 := by decide +kernel
theorem dX0_gives_0 : decode cX0_gives 0 = .ok (.aload_n 0, 1) := dk_42 (dk_at dksX0_gives_0 0 rfl rfl)
theorem dX0_gives_1 : decode cX0_gives 1 = .ok (.iconst 0, 1) := dk_3 (dk_at dksX0_gives_0 1 rfl rfl)
theorem dX0_gives_2 : decode cX0_gives 2 = .ok (.putfield 92, 3) := dk_181 0 92 (dk_at dksX0_gives_0 2 rfl rfl)
theorem dX0_gives_5 : decode cX0_gives 5 = .ok (.iload_n 1, 1) := dk_27 (dk_at dksX0_gives_0 5 rfl rfl)
theorem dX0_gives_6 : decode cX0_gives 6 = .ok (.ireturn, 1) := dk_172 (dk_at dksX0_gives_0 6 rfl rfl)
abbrev cX0_years : ByteArray := prog_1_method_29_code
def yX0_years : MethodName := ⟨RX0, "years", "(I)I"⟩
def dkwX0_years_2 : List UInt8 := [180, 0, 207, 181, 0, 200, 42, 42, 180, 0, 23, 180, 0, 208, 182, 0, 102, 172]
abbrev dktX0_years_2 : List UInt8 := dkwX0_years_2 ++ []
def dkwX0_years_1 : List UInt8 := [180, 0, 38, 182, 0, 203, 181, 0, 196, 167, 0, 10, 77, 42, 44, 182, 0, 192, 172, 42, 42, 180, 0, 23]
abbrev dktX0_years_1 : List UInt8 := dkwX0_years_1 ++ dktX0_years_2
def dkwX0_years_0 : List UInt8 := [42, 27, 17, 1, 44, 182, 0, 185, 154, 0, 9, 42, 8, 182, 0, 98, 172, 42, 42, 180, 0, 23, 27, 42]
abbrev dktX0_years_0 : List UInt8 := dkwX0_years_0 ++ dktX0_years_1
theorem dksX0_years_0 : cX0_years.data.toList.drop 0 = dktX0_years_0 := by decide +kernel
theorem dksX0_years_1 : cX0_years.data.toList.drop 24 = dktX0_years_1 := dk_seg dksX0_years_0 24 rfl rfl
theorem dksX0_years_2 : cX0_years.data.toList.drop 48 = dktX0_years_2 := dk_seg dksX0_years_1 24 rfl rfl
theorem dX0_years_0 : decode cX0_years 0 = .ok (.aload_n 0, 1) := dk_42 (dk_at dksX0_years_0 0 rfl rfl)
theorem dX0_years_1 : decode cX0_years 1 = .ok (.iload_n 1, 1) := dk_27 (dk_at dksX0_years_0 1 rfl rfl)
theorem dX0_years_2 : decode cX0_years 2 = .ok (.sipush 300, 3) := dk_17 1 44 (dk_at dksX0_years_0 2 rfl rfl)
theorem dX0_years_5 : decode cX0_years 5 = .ok (.invokevirtual 185, 3) := dk_182 0 185 (dk_at dksX0_years_0 5 rfl rfl)
theorem dX0_years_8 : decode cX0_years 8 = .ok (.ifCond .ne 9, 3) := dk_154 0 9 (dk_at dksX0_years_0 8 rfl rfl)
theorem dX0_years_11 : decode cX0_years 11 = .ok (.aload_n 0, 1) := dk_42 (dk_at dksX0_years_0 11 rfl rfl)
theorem dX0_years_12 : decode cX0_years 12 = .ok (.iconst 5, 1) := dk_8 (dk_at dksX0_years_0 12 rfl rfl)
theorem dX0_years_13 : decode cX0_years 13 = .ok (.invokevirtual 98, 3) := dk_182 0 98 (dk_at dksX0_years_0 13 rfl rfl)
theorem dX0_years_16 : decode cX0_years 16 = .ok (.ireturn, 1) := dk_172 (dk_at dksX0_years_0 16 rfl rfl)
theorem dX0_years_17 : decode cX0_years 17 = .ok (.aload_n 0, 1) := dk_42 (dk_at dksX0_years_0 17 rfl rfl)
theorem dX0_years_18 : decode cX0_years 18 = .ok (.aload_n 0, 1) := dk_42 (dk_at dksX0_years_0 18 rfl rfl)
theorem dX0_years_19 : decode cX0_years 19 = .ok (.getfield 23, 3) := dk_180 0 23 (dk_at dksX0_years_0 19 rfl rfl)
theorem dX0_years_22 : decode cX0_years 22 = .ok (.iload_n 1, 1) := dk_27 (dk_at dksX0_years_0 22 rfl rfl)
theorem dX0_years_23 : decode cX0_years 23 = .ok (.aload_n 0, 1) := dk_42 (dk_at dksX0_years_0 23 rfl rfl)
theorem dX0_years_24 : decode cX0_years 24 = .ok (.getfield 38, 3) := dk_180 0 38 (dk_at dksX0_years_1 0 rfl rfl)
theorem dX0_years_27 : decode cX0_years 27 = .ok (.invokevirtual 203, 3) := dk_182 0 203 (dk_at dksX0_years_1 3 rfl rfl)
theorem dX0_years_30 : decode cX0_years 30 = .ok (.putfield 196, 3) := dk_181 0 196 (dk_at dksX0_years_1 6 rfl rfl)
theorem dX0_years_33 : decode cX0_years 33 = .ok (.goto 10, 3) := dk_167 0 10 (dk_at dksX0_years_1 9 rfl rfl)
theorem dX0_years_36 : decode cX0_years 36 = .ok (.astore_n 2, 1) := dk_77 (dk_at dksX0_years_1 12 rfl rfl)
theorem dX0_years_37 : decode cX0_years 37 = .ok (.aload_n 0, 1) := dk_42 (dk_at dksX0_years_1 13 rfl rfl)
theorem dX0_years_38 : decode cX0_years 38 = .ok (.aload_n 2, 1) := dk_44 (dk_at dksX0_years_1 14 rfl rfl)
theorem dX0_years_39 : decode cX0_years 39 = .ok (.invokevirtual 192, 3) := dk_182 0 192 (dk_at dksX0_years_1 15 rfl rfl)
theorem dX0_years_42 : decode cX0_years 42 = .ok (.ireturn, 1) := dk_172 (dk_at dksX0_years_1 18 rfl rfl)
theorem dX0_years_43 : decode cX0_years 43 = .ok (.aload_n 0, 1) := dk_42 (dk_at dksX0_years_1 19 rfl rfl)
theorem dX0_years_44 : decode cX0_years 44 = .ok (.aload_n 0, 1) := dk_42 (dk_at dksX0_years_1 20 rfl rfl)
theorem dX0_years_45 : decode cX0_years 45 = .ok (.getfield 23, 3) := dk_180 0 23 (dk_at dksX0_years_1 21 rfl rfl)
theorem dX0_years_48 : decode cX0_years 48 = .ok (.getfield 207, 3) := dk_180 0 207 (dk_at dksX0_years_2 0 rfl rfl)
theorem dX0_years_51 : decode cX0_years 51 = .ok (.putfield 200, 3) := dk_181 0 200 (dk_at dksX0_years_2 3 rfl rfl)
theorem dX0_years_54 : decode cX0_years 54 = .ok (.aload_n 0, 1) := dk_42 (dk_at dksX0_years_2 6 rfl rfl)
theorem dX0_years_55 : decode cX0_years 55 = .ok (.aload_n 0, 1) := dk_42 (dk_at dksX0_years_2 7 rfl rfl)
theorem dX0_years_56 : decode cX0_years 56 = .ok (.getfield 23, 3) := dk_180 0 23 (dk_at dksX0_years_2 8 rfl rfl)
theorem dX0_years_59 : decode cX0_years 59 = .ok (.getfield 208, 3) := dk_180 0 208 (dk_at dksX0_years_2 11 rfl rfl)
theorem dX0_years_62 : decode cX0_years 62 = .ok (.invokevirtual 102, 3) := dk_182 0 102 (dk_at dksX0_years_2 14 rfl rfl)
theorem dX0_years_65 : decode cX0_years 65 = .ok (.ireturn, 1) := dk_172 (dk_at dksX0_years_2 17 rfl rfl)
abbrev cX0_fault : ByteArray := prog_1_method_30_code
def yX0_fault : MethodName := ⟨RX0, "fault", "(I)I"⟩
def dkwX0_fault_1 : List UInt8 := [172]
abbrev dktX0_fault_1 : List UInt8 := dkwX0_fault_1 ++ []
def dkwX0_fault_0 : List UInt8 := [27, 154, 0, 10, 42, 180, 0, 42, 167, 0, 16, 27, 4, 160, 0, 10, 42, 180, 0, 46, 167, 0, 4, 2]
abbrev dktX0_fault_0 : List UInt8 := dkwX0_fault_0 ++ dktX0_fault_1
theorem dksX0_fault_0 : cX0_fault.data.toList.drop 0 = dktX0_fault_0 := by decide +kernel
theorem dksX0_fault_1 : cX0_fault.data.toList.drop 24 = dktX0_fault_1 := dk_seg dksX0_fault_0 24 rfl rfl
theorem dX0_fault_0 : decode cX0_fault 0 = .ok (.iload_n 1, 1) := dk_27 (dk_at dksX0_fault_0 0 rfl rfl)
theorem dX0_fault_1 : decode cX0_fault 1 = .ok (.ifCond .ne 10, 3) := dk_154 0 10 (dk_at dksX0_fault_0 1 rfl rfl)
theorem dX0_fault_4 : decode cX0_fault 4 = .ok (.aload_n 0, 1) := dk_42 (dk_at dksX0_fault_0 4 rfl rfl)
theorem dX0_fault_5 : decode cX0_fault 5 = .ok (.getfield 42, 3) := dk_180 0 42 (dk_at dksX0_fault_0 5 rfl rfl)
theorem dX0_fault_8 : decode cX0_fault 8 = .ok (.goto 16, 3) := dk_167 0 16 (dk_at dksX0_fault_0 8 rfl rfl)
theorem dX0_fault_11 : decode cX0_fault 11 = .ok (.iload_n 1, 1) := dk_27 (dk_at dksX0_fault_0 11 rfl rfl)
theorem dX0_fault_12 : decode cX0_fault 12 = .ok (.iconst 1, 1) := dk_4 (dk_at dksX0_fault_0 12 rfl rfl)
theorem dX0_fault_13 : decode cX0_fault 13 = .ok (.if_icmp .ne 10, 3) := dk_160 0 10 (dk_at dksX0_fault_0 13 rfl rfl)
theorem dX0_fault_16 : decode cX0_fault 16 = .ok (.aload_n 0, 1) := dk_42 (dk_at dksX0_fault_0 16 rfl rfl)
theorem dX0_fault_17 : decode cX0_fault 17 = .ok (.getfield 46, 3) := dk_180 0 46 (dk_at dksX0_fault_0 17 rfl rfl)
theorem dX0_fault_20 : decode cX0_fault 20 = .ok (.goto 4, 3) := dk_167 0 4 (dk_at dksX0_fault_0 20 rfl rfl)
theorem dX0_fault_23 : decode cX0_fault 23 = .ok (.iconst (-1), 1) := dk_2 (dk_at dksX0_fault_0 23 rfl rfl)
theorem dX0_fault_24 : decode cX0_fault 24 = .ok (.ireturn, 1) := dk_172 (dk_at dksX0_fault_1 0 rfl rfl)
abbrev cX0_many : ByteArray := prog_1_method_32_code
def yX0_many : MethodName := ⟨RX0, "many", "(I)I"⟩
def dkwX0_many_7 : List UInt8 := [180, 0, 38, 182, 0, 239, 182, 0, 102, 172, 42, 8, 182, 0, 98, 172]
abbrev dktX0_many_7 : List UInt8 := dkwX0_many_7 ++ []
def dkwX0_many_6 : List UInt8 := [180, 0, 38, 180, 0, 233, 182, 0, 102, 172, 42, 42, 180, 0, 38, 180, 0, 236, 182, 0, 102, 172, 42, 42]
abbrev dktX0_many_6 : List UInt8 := dkwX0_many_6 ++ dktX0_many_7
def dkwX0_many_5 : List UInt8 := [42, 42, 180, 0, 38, 180, 0, 227, 182, 0, 102, 172, 42, 42, 182, 0, 230, 182, 0, 102, 172, 42, 42]
abbrev dktX0_many_5 : List UInt8 := dkwX0_many_5 ++ dktX0_many_6
def dkwX0_many_4 : List UInt8 := [42, 42, 180, 0, 38, 180, 0, 221, 182, 0, 102, 172, 42, 42, 180, 0, 38, 180, 0, 224, 182, 0, 102, 172]
abbrev dktX0_many_4 : List UInt8 := dkwX0_many_4 ++ dktX0_many_5
def dkwX0_many_3 : List UInt8 := [42, 42, 180, 0, 38, 180, 0, 155, 182, 0, 102, 172, 42, 42, 180, 0, 38, 180, 0, 218, 182, 0, 102, 172]
abbrev dktX0_many_3 : List UInt8 := dkwX0_many_3 ++ dktX0_many_4
def dkwX0_many_2 : List UInt8 := [42, 42, 180, 0, 38, 180, 0, 147, 182, 0, 102, 172, 42, 42, 180, 0, 38, 180, 0, 152, 182, 0, 102, 172]
abbrev dktX0_many_2 : List UInt8 := dkwX0_many_2 ++ dktX0_many_3
def dkwX0_many_1 : List UInt8 := [170, 0, 0, 0, 0, 0, 188, 0, 0, 0, 0, 0, 0, 0, 10, 0, 0, 0, 59, 0, 0, 0, 71, 0, 0, 0, 83, 0, 0, 0, 95, 0, 0, 0, 107, 0, 0, 0, 119, 0, 0, 0, 131, 0, 0, 0, 143, 0, 0, 0, 152, 0, 0, 0, 164, 0, 0, 0, 176]
abbrev dktX0_many_1 : List UInt8 := dkwX0_many_1 ++ dktX0_many_2
def dkwX0_many_0 : List UInt8 := [27]
abbrev dktX0_many_0 : List UInt8 := dkwX0_many_0 ++ dktX0_many_1
theorem dksX0_many_0 : cX0_many.data.toList.drop 0 = dktX0_many_0 := by decide +kernel
theorem dksX0_many_1 : cX0_many.data.toList.drop 1 = dktX0_many_1 := dk_seg dksX0_many_0 1 rfl rfl
theorem dksX0_many_2 : cX0_many.data.toList.drop 60 = dktX0_many_2 := dk_seg dksX0_many_1 59 rfl rfl
theorem dksX0_many_3 : cX0_many.data.toList.drop 84 = dktX0_many_3 := dk_seg dksX0_many_2 24 rfl rfl
theorem dksX0_many_4 : cX0_many.data.toList.drop 108 = dktX0_many_4 := dk_seg dksX0_many_3 24 rfl rfl
theorem dksX0_many_5 : cX0_many.data.toList.drop 132 = dktX0_many_5 := dk_seg dksX0_many_4 24 rfl rfl
theorem dksX0_many_6 : cX0_many.data.toList.drop 155 = dktX0_many_6 := dk_seg dksX0_many_5 23 rfl rfl
theorem dksX0_many_7 : cX0_many.data.toList.drop 179 = dktX0_many_7 := dk_seg dksX0_many_6 24 rfl rfl
theorem dX0_many_0 : decode cX0_many 0 = .ok (.iload_n 1, 1) := dk_27 (dk_at dksX0_many_0 0 rfl rfl)
theorem dX0_many_1 : decode cX0_many 1 = .ok (.tableswitch 188 0 10 #[59, 71, 83, 95, 107, 119, 131, 143, 152, 164, 176], 59) := by decide +kernel
theorem dX0_many_60 : decode cX0_many 60 = .ok (.aload_n 0, 1) := dk_42 (dk_at dksX0_many_2 0 rfl rfl)
theorem dX0_many_61 : decode cX0_many 61 = .ok (.aload_n 0, 1) := dk_42 (dk_at dksX0_many_2 1 rfl rfl)
theorem dX0_many_62 : decode cX0_many 62 = .ok (.getfield 38, 3) := dk_180 0 38 (dk_at dksX0_many_2 2 rfl rfl)
theorem dX0_many_65 : decode cX0_many 65 = .ok (.getfield 147, 3) := dk_180 0 147 (dk_at dksX0_many_2 5 rfl rfl)
theorem dX0_many_68 : decode cX0_many 68 = .ok (.invokevirtual 102, 3) := dk_182 0 102 (dk_at dksX0_many_2 8 rfl rfl)
theorem dX0_many_71 : decode cX0_many 71 = .ok (.ireturn, 1) := dk_172 (dk_at dksX0_many_2 11 rfl rfl)
theorem dX0_many_72 : decode cX0_many 72 = .ok (.aload_n 0, 1) := dk_42 (dk_at dksX0_many_2 12 rfl rfl)
theorem dX0_many_73 : decode cX0_many 73 = .ok (.aload_n 0, 1) := dk_42 (dk_at dksX0_many_2 13 rfl rfl)
theorem dX0_many_74 : decode cX0_many 74 = .ok (.getfield 38, 3) := dk_180 0 38 (dk_at dksX0_many_2 14 rfl rfl)
theorem dX0_many_77 : decode cX0_many 77 = .ok (.getfield 152, 3) := dk_180 0 152 (dk_at dksX0_many_2 17 rfl rfl)
theorem dX0_many_80 : decode cX0_many 80 = .ok (.invokevirtual 102, 3) := dk_182 0 102 (dk_at dksX0_many_2 20 rfl rfl)
theorem dX0_many_83 : decode cX0_many 83 = .ok (.ireturn, 1) := dk_172 (dk_at dksX0_many_2 23 rfl rfl)
theorem dX0_many_84 : decode cX0_many 84 = .ok (.aload_n 0, 1) := dk_42 (dk_at dksX0_many_3 0 rfl rfl)
theorem dX0_many_85 : decode cX0_many 85 = .ok (.aload_n 0, 1) := dk_42 (dk_at dksX0_many_3 1 rfl rfl)
theorem dX0_many_86 : decode cX0_many 86 = .ok (.getfield 38, 3) := dk_180 0 38 (dk_at dksX0_many_3 2 rfl rfl)
theorem dX0_many_89 : decode cX0_many 89 = .ok (.getfield 155, 3) := dk_180 0 155 (dk_at dksX0_many_3 5 rfl rfl)
theorem dX0_many_92 : decode cX0_many 92 = .ok (.invokevirtual 102, 3) := dk_182 0 102 (dk_at dksX0_many_3 8 rfl rfl)
theorem dX0_many_95 : decode cX0_many 95 = .ok (.ireturn, 1) := dk_172 (dk_at dksX0_many_3 11 rfl rfl)
theorem dX0_many_96 : decode cX0_many 96 = .ok (.aload_n 0, 1) := dk_42 (dk_at dksX0_many_3 12 rfl rfl)
theorem dX0_many_97 : decode cX0_many 97 = .ok (.aload_n 0, 1) := dk_42 (dk_at dksX0_many_3 13 rfl rfl)
theorem dX0_many_98 : decode cX0_many 98 = .ok (.getfield 38, 3) := dk_180 0 38 (dk_at dksX0_many_3 14 rfl rfl)
theorem dX0_many_101 : decode cX0_many 101 = .ok (.getfield 218, 3) := dk_180 0 218 (dk_at dksX0_many_3 17 rfl rfl)
theorem dX0_many_104 : decode cX0_many 104 = .ok (.invokevirtual 102, 3) := dk_182 0 102 (dk_at dksX0_many_3 20 rfl rfl)
theorem dX0_many_107 : decode cX0_many 107 = .ok (.ireturn, 1) := dk_172 (dk_at dksX0_many_3 23 rfl rfl)
theorem dX0_many_108 : decode cX0_many 108 = .ok (.aload_n 0, 1) := dk_42 (dk_at dksX0_many_4 0 rfl rfl)
theorem dX0_many_109 : decode cX0_many 109 = .ok (.aload_n 0, 1) := dk_42 (dk_at dksX0_many_4 1 rfl rfl)
theorem dX0_many_110 : decode cX0_many 110 = .ok (.getfield 38, 3) := dk_180 0 38 (dk_at dksX0_many_4 2 rfl rfl)
theorem dX0_many_113 : decode cX0_many 113 = .ok (.getfield 221, 3) := dk_180 0 221 (dk_at dksX0_many_4 5 rfl rfl)
theorem dX0_many_116 : decode cX0_many 116 = .ok (.invokevirtual 102, 3) := dk_182 0 102 (dk_at dksX0_many_4 8 rfl rfl)
theorem dX0_many_119 : decode cX0_many 119 = .ok (.ireturn, 1) := dk_172 (dk_at dksX0_many_4 11 rfl rfl)
theorem dX0_many_120 : decode cX0_many 120 = .ok (.aload_n 0, 1) := dk_42 (dk_at dksX0_many_4 12 rfl rfl)
theorem dX0_many_121 : decode cX0_many 121 = .ok (.aload_n 0, 1) := dk_42 (dk_at dksX0_many_4 13 rfl rfl)
theorem dX0_many_122 : decode cX0_many 122 = .ok (.getfield 38, 3) := dk_180 0 38 (dk_at dksX0_many_4 14 rfl rfl)
theorem dX0_many_125 : decode cX0_many 125 = .ok (.getfield 224, 3) := dk_180 0 224 (dk_at dksX0_many_4 17 rfl rfl)
theorem dX0_many_128 : decode cX0_many 128 = .ok (.invokevirtual 102, 3) := dk_182 0 102 (dk_at dksX0_many_4 20 rfl rfl)
theorem dX0_many_131 : decode cX0_many 131 = .ok (.ireturn, 1) := dk_172 (dk_at dksX0_many_4 23 rfl rfl)
theorem dX0_many_132 : decode cX0_many 132 = .ok (.aload_n 0, 1) := dk_42 (dk_at dksX0_many_5 0 rfl rfl)
theorem dX0_many_133 : decode cX0_many 133 = .ok (.aload_n 0, 1) := dk_42 (dk_at dksX0_many_5 1 rfl rfl)
theorem dX0_many_134 : decode cX0_many 134 = .ok (.getfield 38, 3) := dk_180 0 38 (dk_at dksX0_many_5 2 rfl rfl)
theorem dX0_many_137 : decode cX0_many 137 = .ok (.getfield 227, 3) := dk_180 0 227 (dk_at dksX0_many_5 5 rfl rfl)
theorem dX0_many_140 : decode cX0_many 140 = .ok (.invokevirtual 102, 3) := dk_182 0 102 (dk_at dksX0_many_5 8 rfl rfl)
theorem dX0_many_143 : decode cX0_many 143 = .ok (.ireturn, 1) := dk_172 (dk_at dksX0_many_5 11 rfl rfl)
theorem dX0_many_144 : decode cX0_many 144 = .ok (.aload_n 0, 1) := dk_42 (dk_at dksX0_many_5 12 rfl rfl)
theorem dX0_many_145 : decode cX0_many 145 = .ok (.aload_n 0, 1) := dk_42 (dk_at dksX0_many_5 13 rfl rfl)
theorem dX0_many_146 : decode cX0_many 146 = .ok (.invokevirtual 230, 3) := dk_182 0 230 (dk_at dksX0_many_5 14 rfl rfl)
theorem dX0_many_149 : decode cX0_many 149 = .ok (.invokevirtual 102, 3) := dk_182 0 102 (dk_at dksX0_many_5 17 rfl rfl)
theorem dX0_many_152 : decode cX0_many 152 = .ok (.ireturn, 1) := dk_172 (dk_at dksX0_many_5 20 rfl rfl)
theorem dX0_many_153 : decode cX0_many 153 = .ok (.aload_n 0, 1) := dk_42 (dk_at dksX0_many_5 21 rfl rfl)
theorem dX0_many_154 : decode cX0_many 154 = .ok (.aload_n 0, 1) := dk_42 (dk_at dksX0_many_5 22 rfl rfl)
theorem dX0_many_155 : decode cX0_many 155 = .ok (.getfield 38, 3) := dk_180 0 38 (dk_at dksX0_many_6 0 rfl rfl)
theorem dX0_many_158 : decode cX0_many 158 = .ok (.getfield 233, 3) := dk_180 0 233 (dk_at dksX0_many_6 3 rfl rfl)
theorem dX0_many_161 : decode cX0_many 161 = .ok (.invokevirtual 102, 3) := dk_182 0 102 (dk_at dksX0_many_6 6 rfl rfl)
theorem dX0_many_164 : decode cX0_many 164 = .ok (.ireturn, 1) := dk_172 (dk_at dksX0_many_6 9 rfl rfl)
theorem dX0_many_165 : decode cX0_many 165 = .ok (.aload_n 0, 1) := dk_42 (dk_at dksX0_many_6 10 rfl rfl)
theorem dX0_many_166 : decode cX0_many 166 = .ok (.aload_n 0, 1) := dk_42 (dk_at dksX0_many_6 11 rfl rfl)
theorem dX0_many_167 : decode cX0_many 167 = .ok (.getfield 38, 3) := dk_180 0 38 (dk_at dksX0_many_6 12 rfl rfl)
theorem dX0_many_170 : decode cX0_many 170 = .ok (.getfield 236, 3) := dk_180 0 236 (dk_at dksX0_many_6 15 rfl rfl)
theorem dX0_many_173 : decode cX0_many 173 = .ok (.invokevirtual 102, 3) := dk_182 0 102 (dk_at dksX0_many_6 18 rfl rfl)
theorem dX0_many_176 : decode cX0_many 176 = .ok (.ireturn, 1) := dk_172 (dk_at dksX0_many_6 21 rfl rfl)
theorem dX0_many_177 : decode cX0_many 177 = .ok (.aload_n 0, 1) := dk_42 (dk_at dksX0_many_6 22 rfl rfl)
theorem dX0_many_178 : decode cX0_many 178 = .ok (.aload_n 0, 1) := dk_42 (dk_at dksX0_many_6 23 rfl rfl)
theorem dX0_many_179 : decode cX0_many 179 = .ok (.getfield 38, 3) := dk_180 0 38 (dk_at dksX0_many_7 0 rfl rfl)
theorem dX0_many_182 : decode cX0_many 182 = .ok (.invokevirtual 239, 3) := dk_182 0 239 (dk_at dksX0_many_7 3 rfl rfl)
theorem dX0_many_185 : decode cX0_many 185 = .ok (.invokevirtual 102, 3) := dk_182 0 102 (dk_at dksX0_many_7 6 rfl rfl)
theorem dX0_many_188 : decode cX0_many 188 = .ok (.ireturn, 1) := dk_172 (dk_at dksX0_many_7 9 rfl rfl)
theorem dX0_many_189 : decode cX0_many 189 = .ok (.aload_n 0, 1) := dk_42 (dk_at dksX0_many_7 10 rfl rfl)
theorem dX0_many_190 : decode cX0_many 190 = .ok (.iconst 5, 1) := dk_8 (dk_at dksX0_many_7 11 rfl rfl)
theorem dX0_many_191 : decode cX0_many 191 = .ok (.invokevirtual 98, 3) := dk_182 0 98 (dk_at dksX0_many_7 12 rfl rfl)
theorem dX0_many_194 : decode cX0_many 194 = .ok (.ireturn, 1) := dk_172 (dk_at dksX0_many_7 15 rfl rfl)
abbrev cX0_barbers : ByteArray := prog_1_method_31_code
def yX0_barbers : MethodName := ⟨RX0, "barbers", "()I"⟩
def dkwX0_barbers_1 : List UInt8 := [50, 180, 0, 214, 153, 0, 9, 4, 28, 120, 167, 0, 4, 3, 128, 60, 132, 2, 1, 167, 255, 217, 27, 172]
abbrev dktX0_barbers_1 : List UInt8 := dkwX0_barbers_1 ++ []
def dkwX0_barbers_0 : List UInt8 := [3, 60, 3, 61, 28, 42, 180, 0, 38, 180, 0, 152, 162, 0, 34, 27, 42, 180, 0, 38, 180, 0, 211, 28]
abbrev dktX0_barbers_0 : List UInt8 := dkwX0_barbers_0 ++ dktX0_barbers_1
theorem dksX0_barbers_0 : cX0_barbers.data.toList.drop 0 = dktX0_barbers_0 := by decide +kernel
theorem dksX0_barbers_1 : cX0_barbers.data.toList.drop 24 = dktX0_barbers_1 := dk_seg dksX0_barbers_0 24 rfl rfl
theorem dX0_barbers_0 : decode cX0_barbers 0 = .ok (.iconst 0, 1) := dk_3 (dk_at dksX0_barbers_0 0 rfl rfl)
theorem dX0_barbers_1 : decode cX0_barbers 1 = .ok (.istore_n 1, 1) := dk_60 (dk_at dksX0_barbers_0 1 rfl rfl)
theorem dX0_barbers_2 : decode cX0_barbers 2 = .ok (.iconst 0, 1) := dk_3 (dk_at dksX0_barbers_0 2 rfl rfl)
theorem dX0_barbers_3 : decode cX0_barbers 3 = .ok (.istore_n 2, 1) := dk_61 (dk_at dksX0_barbers_0 3 rfl rfl)
theorem dX0_barbers_4 : decode cX0_barbers 4 = .ok (.iload_n 2, 1) := dk_28 (dk_at dksX0_barbers_0 4 rfl rfl)
theorem dX0_barbers_5 : decode cX0_barbers 5 = .ok (.aload_n 0, 1) := dk_42 (dk_at dksX0_barbers_0 5 rfl rfl)
theorem dX0_barbers_6 : decode cX0_barbers 6 = .ok (.getfield 38, 3) := dk_180 0 38 (dk_at dksX0_barbers_0 6 rfl rfl)
theorem dX0_barbers_9 : decode cX0_barbers 9 = .ok (.getfield 152, 3) := dk_180 0 152 (dk_at dksX0_barbers_0 9 rfl rfl)
theorem dX0_barbers_12 : decode cX0_barbers 12 = .ok (.if_icmp .ge 34, 3) := dk_162 0 34 (dk_at dksX0_barbers_0 12 rfl rfl)
theorem dX0_barbers_15 : decode cX0_barbers 15 = .ok (.iload_n 1, 1) := dk_27 (dk_at dksX0_barbers_0 15 rfl rfl)
theorem dX0_barbers_16 : decode cX0_barbers 16 = .ok (.aload_n 0, 1) := dk_42 (dk_at dksX0_barbers_0 16 rfl rfl)
theorem dX0_barbers_17 : decode cX0_barbers 17 = .ok (.getfield 38, 3) := dk_180 0 38 (dk_at dksX0_barbers_0 17 rfl rfl)
theorem dX0_barbers_20 : decode cX0_barbers 20 = .ok (.getfield 211, 3) := dk_180 0 211 (dk_at dksX0_barbers_0 20 rfl rfl)
theorem dX0_barbers_23 : decode cX0_barbers 23 = .ok (.iload_n 2, 1) := dk_28 (dk_at dksX0_barbers_0 23 rfl rfl)
theorem dX0_barbers_24 : decode cX0_barbers 24 = .ok (.aaload, 1) := dk_50 (dk_at dksX0_barbers_1 0 rfl rfl)
theorem dX0_barbers_25 : decode cX0_barbers 25 = .ok (.getfield 214, 3) := dk_180 0 214 (dk_at dksX0_barbers_1 1 rfl rfl)
theorem dX0_barbers_28 : decode cX0_barbers 28 = .ok (.ifCond .eq 9, 3) := dk_153 0 9 (dk_at dksX0_barbers_1 4 rfl rfl)
theorem dX0_barbers_31 : decode cX0_barbers 31 = .ok (.iconst 1, 1) := dk_4 (dk_at dksX0_barbers_1 7 rfl rfl)
theorem dX0_barbers_32 : decode cX0_barbers 32 = .ok (.iload_n 2, 1) := dk_28 (dk_at dksX0_barbers_1 8 rfl rfl)
theorem dX0_barbers_33 : decode cX0_barbers 33 = .ok (.ishl, 1) := dk_120 (dk_at dksX0_barbers_1 9 rfl rfl)
theorem dX0_barbers_34 : decode cX0_barbers 34 = .ok (.goto 4, 3) := dk_167 0 4 (dk_at dksX0_barbers_1 10 rfl rfl)
theorem dX0_barbers_37 : decode cX0_barbers 37 = .ok (.iconst 0, 1) := dk_3 (dk_at dksX0_barbers_1 13 rfl rfl)
theorem dX0_barbers_38 : decode cX0_barbers 38 = .ok (.ior, 1) := dk_128 (dk_at dksX0_barbers_1 14 rfl rfl)
theorem dX0_barbers_39 : decode cX0_barbers 39 = .ok (.istore_n 1, 1) := dk_60 (dk_at dksX0_barbers_1 15 rfl rfl)
theorem dX0_barbers_40 : decode cX0_barbers 40 = .ok (.iinc 2 1, 3) := dk_132 2 1 (dk_at dksX0_barbers_1 16 rfl rfl)
theorem dX0_barbers_43 : decode cX0_barbers 43 = .ok (.goto (-39), 3) := dk_167 255 217 (dk_at dksX0_barbers_1 19 rfl rfl)
theorem dX0_barbers_46 : decode cX0_barbers 46 = .ok (.iload_n 1, 1) := dk_27 (dk_at dksX0_barbers_1 22 rfl rfl)
theorem dX0_barbers_47 : decode cX0_barbers 47 = .ok (.ireturn, 1) := dk_172 (dk_at dksX0_barbers_1 23 rfl rfl)
abbrev cX0_word : ByteArray := prog_1_method_33_code
def yX0_word : MethodName := ⟨RX0, "word", "(II)I"⟩
def dkwX0_word_5 : List UInt8 := [172]
abbrev dktX0_word_5 : List UInt8 := dkwX0_word_5 ++ []
def dkwX0_word_4 : List UInt8 := [28, 5, 100, 182, 1, 1, 182, 0, 102, 172, 42, 45, 180, 1, 5, 182, 0, 102, 172, 42, 8, 182, 0, 98]
abbrev dktX0_word_4 : List UInt8 := dkwX0_word_4 ++ dktX0_word_5
def dkwX0_word_3 : List UInt8 := [42, 45, 180, 0, 249, 182, 0, 102, 172, 42, 45, 180, 0, 254, 182, 0, 102, 172, 42, 42, 180, 0, 38, 27]
abbrev dktX0_word_3 : List UInt8 := dkwX0_word_3 ++ dktX0_word_4
def dkwX0_word_2 : List UInt8 := [170, 0, 0, 0, 0, 0, 78, 0, 0, 0, 0, 0, 0, 0, 4, 0, 0, 0, 35, 0, 0, 0, 44, 0, 0, 0, 53, 0, 0, 0, 53, 0, 0, 0, 69]
abbrev dktX0_word_2 : List UInt8 := dkwX0_word_2 ++ dktX0_word_3
def dkwX0_word_1 : List UInt8 := [28]
abbrev dktX0_word_1 : List UInt8 := dkwX0_word_1 ++ dktX0_word_2
def dkwX0_word_0 : List UInt8 := [42, 27, 182, 0, 242, 154, 0, 9, 42, 5, 182, 0, 98, 172, 42, 180, 0, 38, 180, 0, 245, 27, 50, 78]
abbrev dktX0_word_0 : List UInt8 := dkwX0_word_0 ++ dktX0_word_1
theorem dksX0_word_0 : cX0_word.data.toList.drop 0 = dktX0_word_0 := by decide +kernel
theorem dksX0_word_1 : cX0_word.data.toList.drop 24 = dktX0_word_1 := dk_seg dksX0_word_0 24 rfl rfl
theorem dksX0_word_2 : cX0_word.data.toList.drop 25 = dktX0_word_2 := dk_seg dksX0_word_1 1 rfl rfl
theorem dksX0_word_3 : cX0_word.data.toList.drop 60 = dktX0_word_3 := dk_seg dksX0_word_2 35 rfl rfl
theorem dksX0_word_4 : cX0_word.data.toList.drop 84 = dktX0_word_4 := dk_seg dksX0_word_3 24 rfl rfl
theorem dksX0_word_5 : cX0_word.data.toList.drop 108 = dktX0_word_5 := dk_seg dksX0_word_4 24 rfl rfl
theorem dX0_word_0 : decode cX0_word 0 = .ok (.aload_n 0, 1) := dk_42 (dk_at dksX0_word_0 0 rfl rfl)
theorem dX0_word_1 : decode cX0_word 1 = .ok (.iload_n 1, 1) := dk_27 (dk_at dksX0_word_0 1 rfl rfl)
theorem dX0_word_2 : decode cX0_word 2 = .ok (.invokevirtual 242, 3) := dk_182 0 242 (dk_at dksX0_word_0 2 rfl rfl)
theorem dX0_word_5 : decode cX0_word 5 = .ok (.ifCond .ne 9, 3) := dk_154 0 9 (dk_at dksX0_word_0 5 rfl rfl)
theorem dX0_word_8 : decode cX0_word 8 = .ok (.aload_n 0, 1) := dk_42 (dk_at dksX0_word_0 8 rfl rfl)
theorem dX0_word_9 : decode cX0_word 9 = .ok (.iconst 2, 1) := dk_5 (dk_at dksX0_word_0 9 rfl rfl)
theorem dX0_word_10 : decode cX0_word 10 = .ok (.invokevirtual 98, 3) := dk_182 0 98 (dk_at dksX0_word_0 10 rfl rfl)
theorem dX0_word_13 : decode cX0_word 13 = .ok (.ireturn, 1) := dk_172 (dk_at dksX0_word_0 13 rfl rfl)
theorem dX0_word_14 : decode cX0_word 14 = .ok (.aload_n 0, 1) := dk_42 (dk_at dksX0_word_0 14 rfl rfl)
theorem dX0_word_15 : decode cX0_word 15 = .ok (.getfield 38, 3) := dk_180 0 38 (dk_at dksX0_word_0 15 rfl rfl)
theorem dX0_word_18 : decode cX0_word 18 = .ok (.getfield 245, 3) := dk_180 0 245 (dk_at dksX0_word_0 18 rfl rfl)
theorem dX0_word_21 : decode cX0_word 21 = .ok (.iload_n 1, 1) := dk_27 (dk_at dksX0_word_0 21 rfl rfl)
theorem dX0_word_22 : decode cX0_word 22 = .ok (.aaload, 1) := dk_50 (dk_at dksX0_word_0 22 rfl rfl)
theorem dX0_word_23 : decode cX0_word 23 = .ok (.astore_n 3, 1) := dk_78 (dk_at dksX0_word_0 23 rfl rfl)
theorem dX0_word_24 : decode cX0_word 24 = .ok (.iload_n 2, 1) := dk_28 (dk_at dksX0_word_1 0 rfl rfl)
theorem dX0_word_25 : decode cX0_word 25 = .ok (.tableswitch 78 0 4 #[35, 44, 53, 53, 69], 35) := by decide +kernel
theorem dX0_word_60 : decode cX0_word 60 = .ok (.aload_n 0, 1) := dk_42 (dk_at dksX0_word_3 0 rfl rfl)
theorem dX0_word_61 : decode cX0_word 61 = .ok (.aload_n 3, 1) := dk_45 (dk_at dksX0_word_3 1 rfl rfl)
theorem dX0_word_62 : decode cX0_word 62 = .ok (.getfield 249, 3) := dk_180 0 249 (dk_at dksX0_word_3 2 rfl rfl)
theorem dX0_word_65 : decode cX0_word 65 = .ok (.invokevirtual 102, 3) := dk_182 0 102 (dk_at dksX0_word_3 5 rfl rfl)
theorem dX0_word_68 : decode cX0_word 68 = .ok (.ireturn, 1) := dk_172 (dk_at dksX0_word_3 8 rfl rfl)
theorem dX0_word_69 : decode cX0_word 69 = .ok (.aload_n 0, 1) := dk_42 (dk_at dksX0_word_3 9 rfl rfl)
theorem dX0_word_70 : decode cX0_word 70 = .ok (.aload_n 3, 1) := dk_45 (dk_at dksX0_word_3 10 rfl rfl)
theorem dX0_word_71 : decode cX0_word 71 = .ok (.getfield 254, 3) := dk_180 0 254 (dk_at dksX0_word_3 11 rfl rfl)
theorem dX0_word_74 : decode cX0_word 74 = .ok (.invokevirtual 102, 3) := dk_182 0 102 (dk_at dksX0_word_3 14 rfl rfl)
theorem dX0_word_77 : decode cX0_word 77 = .ok (.ireturn, 1) := dk_172 (dk_at dksX0_word_3 17 rfl rfl)
theorem dX0_word_78 : decode cX0_word 78 = .ok (.aload_n 0, 1) := dk_42 (dk_at dksX0_word_3 18 rfl rfl)
theorem dX0_word_79 : decode cX0_word 79 = .ok (.aload_n 0, 1) := dk_42 (dk_at dksX0_word_3 19 rfl rfl)
theorem dX0_word_80 : decode cX0_word 80 = .ok (.getfield 38, 3) := dk_180 0 38 (dk_at dksX0_word_3 20 rfl rfl)
theorem dX0_word_83 : decode cX0_word 83 = .ok (.iload_n 1, 1) := dk_27 (dk_at dksX0_word_3 23 rfl rfl)
theorem dX0_word_84 : decode cX0_word 84 = .ok (.iload_n 2, 1) := dk_28 (dk_at dksX0_word_4 0 rfl rfl)
theorem dX0_word_85 : decode cX0_word 85 = .ok (.iconst 2, 1) := dk_5 (dk_at dksX0_word_4 1 rfl rfl)
theorem dX0_word_86 : decode cX0_word 86 = .ok (.isub, 1) := dk_100 (dk_at dksX0_word_4 2 rfl rfl)
theorem dX0_word_87 : decode cX0_word 87 = .ok (.invokevirtual 257, 3) := dk_182 1 1 (dk_at dksX0_word_4 3 rfl rfl)
theorem dX0_word_90 : decode cX0_word 90 = .ok (.invokevirtual 102, 3) := dk_182 0 102 (dk_at dksX0_word_4 6 rfl rfl)
theorem dX0_word_93 : decode cX0_word 93 = .ok (.ireturn, 1) := dk_172 (dk_at dksX0_word_4 9 rfl rfl)
theorem dX0_word_94 : decode cX0_word 94 = .ok (.aload_n 0, 1) := dk_42 (dk_at dksX0_word_4 10 rfl rfl)
theorem dX0_word_95 : decode cX0_word 95 = .ok (.aload_n 3, 1) := dk_45 (dk_at dksX0_word_4 11 rfl rfl)
theorem dX0_word_96 : decode cX0_word 96 = .ok (.getfield 261, 3) := dk_180 1 5 (dk_at dksX0_word_4 12 rfl rfl)
theorem dX0_word_99 : decode cX0_word 99 = .ok (.invokevirtual 102, 3) := dk_182 0 102 (dk_at dksX0_word_4 15 rfl rfl)
theorem dX0_word_102 : decode cX0_word 102 = .ok (.ireturn, 1) := dk_172 (dk_at dksX0_word_4 18 rfl rfl)
theorem dX0_word_103 : decode cX0_word 103 = .ok (.aload_n 0, 1) := dk_42 (dk_at dksX0_word_4 19 rfl rfl)
theorem dX0_word_104 : decode cX0_word 104 = .ok (.iconst 5, 1) := dk_8 (dk_at dksX0_word_4 20 rfl rfl)
theorem dX0_word_105 : decode cX0_word 105 = .ok (.invokevirtual 98, 3) := dk_182 0 98 (dk_at dksX0_word_4 21 rfl rfl)
theorem dX0_word_108 : decode cX0_word 108 = .ok (.ireturn, 1) := dk_172 (dk_at dksX0_word_5 0 rfl rfl)
abbrev cX0_isWord : ByteArray := prog_1_method_18_code
def yX0_isWord : MethodName := ⟨RX0, "isWord", "(I)Z"⟩
def dkwX0_isWord_0 : List UInt8 := [27, 155, 0, 18, 27, 42, 180, 0, 38, 180, 0, 147, 162, 0, 7, 4, 167, 0, 4, 3, 172]
abbrev dktX0_isWord_0 : List UInt8 := dkwX0_isWord_0 ++ []
theorem dksX0_isWord_0 : cX0_isWord.data.toList.drop 0 = dktX0_isWord_0 := by decide +kernel
theorem dX0_isWord_0 : decode cX0_isWord 0 = .ok (.iload_n 1, 1) := dk_27 (dk_at dksX0_isWord_0 0 rfl rfl)
theorem dX0_isWord_1 : decode cX0_isWord 1 = .ok (.ifCond .lt 18, 3) := dk_155 0 18 (dk_at dksX0_isWord_0 1 rfl rfl)
theorem dX0_isWord_4 : decode cX0_isWord 4 = .ok (.iload_n 1, 1) := dk_27 (dk_at dksX0_isWord_0 4 rfl rfl)
theorem dX0_isWord_5 : decode cX0_isWord 5 = .ok (.aload_n 0, 1) := dk_42 (dk_at dksX0_isWord_0 5 rfl rfl)
theorem dX0_isWord_6 : decode cX0_isWord 6 = .ok (.getfield 38, 3) := dk_180 0 38 (dk_at dksX0_isWord_0 6 rfl rfl)
theorem dX0_isWord_9 : decode cX0_isWord 9 = .ok (.getfield 147, 3) := dk_180 0 147 (dk_at dksX0_isWord_0 9 rfl rfl)
theorem dX0_isWord_12 : decode cX0_isWord 12 = .ok (.if_icmp .ge 7, 3) := dk_162 0 7 (dk_at dksX0_isWord_0 12 rfl rfl)
theorem dX0_isWord_15 : decode cX0_isWord 15 = .ok (.iconst 1, 1) := dk_4 (dk_at dksX0_isWord_0 15 rfl rfl)
theorem dX0_isWord_16 : decode cX0_isWord 16 = .ok (.goto 4, 3) := dk_167 0 4 (dk_at dksX0_isWord_0 16 rfl rfl)
theorem dX0_isWord_19 : decode cX0_isWord 19 = .ok (.iconst 0, 1) := dk_3 (dk_at dksX0_isWord_0 19 rfl rfl)
theorem dX0_isWord_20 : decode cX0_isWord 20 = .ok (.ireturn, 1) := dk_172 (dk_at dksX0_isWord_0 20 rfl rfl)
abbrev cX0_person : ByteArray := prog_1_method_34_code
def yX0_person : MethodName := ⟨RX0, "person", "(II)I"⟩
def dkwX0_person_5 : List UInt8 := [182, 1, 20, 182, 0, 102, 172, 42, 8, 182, 0, 98, 172]
abbrev dktX0_person_5 : List UInt8 := dkwX0_person_5 ++ []
def dkwX0_person_4 : List UInt8 := [182, 0, 102, 172, 42, 45, 180, 1, 14, 182, 0, 102, 172, 42, 45, 180, 1, 17, 182, 0, 102, 172, 42, 45]
abbrev dktX0_person_4 : List UInt8 := dkwX0_person_4 ++ dktX0_person_5
def dkwX0_person_3 : List UInt8 := [42, 45, 180, 1, 11, 182, 0, 102, 172, 42, 45, 180, 0, 214, 153, 0, 7, 4, 167, 0, 4, 3]
abbrev dktX0_person_3 : List UInt8 := dkwX0_person_3 ++ dktX0_person_4
def dkwX0_person_2 : List UInt8 := [170, 0, 0, 0, 0, 0, 88, 0, 0, 0, 0, 0, 0, 0, 4, 0, 0, 0, 35, 0, 0, 0, 44, 0, 0, 0, 61, 0, 0, 0, 70, 0, 0, 0, 79]
abbrev dktX0_person_2 : List UInt8 := dkwX0_person_2 ++ dktX0_person_3
def dkwX0_person_1 : List UInt8 := [28]
abbrev dktX0_person_1 : List UInt8 := dkwX0_person_1 ++ dktX0_person_2
def dkwX0_person_0 : List UInt8 := [42, 27, 182, 1, 8, 154, 0, 9, 42, 5, 182, 0, 98, 172, 42, 180, 0, 38, 180, 0, 211, 27, 50, 78]
abbrev dktX0_person_0 : List UInt8 := dkwX0_person_0 ++ dktX0_person_1
theorem dksX0_person_0 : cX0_person.data.toList.drop 0 = dktX0_person_0 := by decide +kernel
theorem dksX0_person_1 : cX0_person.data.toList.drop 24 = dktX0_person_1 := dk_seg dksX0_person_0 24 rfl rfl
theorem dksX0_person_2 : cX0_person.data.toList.drop 25 = dktX0_person_2 := dk_seg dksX0_person_1 1 rfl rfl
theorem dksX0_person_3 : cX0_person.data.toList.drop 60 = dktX0_person_3 := dk_seg dksX0_person_2 35 rfl rfl
theorem dksX0_person_4 : cX0_person.data.toList.drop 82 = dktX0_person_4 := dk_seg dksX0_person_3 22 rfl rfl
theorem dksX0_person_5 : cX0_person.data.toList.drop 106 = dktX0_person_5 := dk_seg dksX0_person_4 24 rfl rfl
theorem dX0_person_0 : decode cX0_person 0 = .ok (.aload_n 0, 1) := dk_42 (dk_at dksX0_person_0 0 rfl rfl)
theorem dX0_person_1 : decode cX0_person 1 = .ok (.iload_n 1, 1) := dk_27 (dk_at dksX0_person_0 1 rfl rfl)
theorem dX0_person_2 : decode cX0_person 2 = .ok (.invokevirtual 264, 3) := dk_182 1 8 (dk_at dksX0_person_0 2 rfl rfl)
theorem dX0_person_5 : decode cX0_person 5 = .ok (.ifCond .ne 9, 3) := dk_154 0 9 (dk_at dksX0_person_0 5 rfl rfl)
theorem dX0_person_8 : decode cX0_person 8 = .ok (.aload_n 0, 1) := dk_42 (dk_at dksX0_person_0 8 rfl rfl)
theorem dX0_person_9 : decode cX0_person 9 = .ok (.iconst 2, 1) := dk_5 (dk_at dksX0_person_0 9 rfl rfl)
theorem dX0_person_10 : decode cX0_person 10 = .ok (.invokevirtual 98, 3) := dk_182 0 98 (dk_at dksX0_person_0 10 rfl rfl)
theorem dX0_person_13 : decode cX0_person 13 = .ok (.ireturn, 1) := dk_172 (dk_at dksX0_person_0 13 rfl rfl)
theorem dX0_person_14 : decode cX0_person 14 = .ok (.aload_n 0, 1) := dk_42 (dk_at dksX0_person_0 14 rfl rfl)
theorem dX0_person_15 : decode cX0_person 15 = .ok (.getfield 38, 3) := dk_180 0 38 (dk_at dksX0_person_0 15 rfl rfl)
theorem dX0_person_18 : decode cX0_person 18 = .ok (.getfield 211, 3) := dk_180 0 211 (dk_at dksX0_person_0 18 rfl rfl)
theorem dX0_person_21 : decode cX0_person 21 = .ok (.iload_n 1, 1) := dk_27 (dk_at dksX0_person_0 21 rfl rfl)
theorem dX0_person_22 : decode cX0_person 22 = .ok (.aaload, 1) := dk_50 (dk_at dksX0_person_0 22 rfl rfl)
theorem dX0_person_23 : decode cX0_person 23 = .ok (.astore_n 3, 1) := dk_78 (dk_at dksX0_person_0 23 rfl rfl)
theorem dX0_person_24 : decode cX0_person 24 = .ok (.iload_n 2, 1) := dk_28 (dk_at dksX0_person_1 0 rfl rfl)
theorem dX0_person_25 : decode cX0_person 25 = .ok (.tableswitch 88 0 4 #[35, 44, 61, 70, 79], 35) := by decide +kernel
theorem dX0_person_60 : decode cX0_person 60 = .ok (.aload_n 0, 1) := dk_42 (dk_at dksX0_person_3 0 rfl rfl)
theorem dX0_person_61 : decode cX0_person 61 = .ok (.aload_n 3, 1) := dk_45 (dk_at dksX0_person_3 1 rfl rfl)
theorem dX0_person_62 : decode cX0_person 62 = .ok (.getfield 267, 3) := dk_180 1 11 (dk_at dksX0_person_3 2 rfl rfl)
theorem dX0_person_65 : decode cX0_person 65 = .ok (.invokevirtual 102, 3) := dk_182 0 102 (dk_at dksX0_person_3 5 rfl rfl)
theorem dX0_person_68 : decode cX0_person 68 = .ok (.ireturn, 1) := dk_172 (dk_at dksX0_person_3 8 rfl rfl)
theorem dX0_person_69 : decode cX0_person 69 = .ok (.aload_n 0, 1) := dk_42 (dk_at dksX0_person_3 9 rfl rfl)
theorem dX0_person_70 : decode cX0_person 70 = .ok (.aload_n 3, 1) := dk_45 (dk_at dksX0_person_3 10 rfl rfl)
theorem dX0_person_71 : decode cX0_person 71 = .ok (.getfield 214, 3) := dk_180 0 214 (dk_at dksX0_person_3 11 rfl rfl)
theorem dX0_person_74 : decode cX0_person 74 = .ok (.ifCond .eq 7, 3) := dk_153 0 7 (dk_at dksX0_person_3 14 rfl rfl)
theorem dX0_person_77 : decode cX0_person 77 = .ok (.iconst 1, 1) := dk_4 (dk_at dksX0_person_3 17 rfl rfl)
theorem dX0_person_78 : decode cX0_person 78 = .ok (.goto 4, 3) := dk_167 0 4 (dk_at dksX0_person_3 18 rfl rfl)
theorem dX0_person_81 : decode cX0_person 81 = .ok (.iconst 0, 1) := dk_3 (dk_at dksX0_person_3 21 rfl rfl)
theorem dX0_person_82 : decode cX0_person 82 = .ok (.invokevirtual 102, 3) := dk_182 0 102 (dk_at dksX0_person_4 0 rfl rfl)
theorem dX0_person_85 : decode cX0_person 85 = .ok (.ireturn, 1) := dk_172 (dk_at dksX0_person_4 3 rfl rfl)
theorem dX0_person_86 : decode cX0_person 86 = .ok (.aload_n 0, 1) := dk_42 (dk_at dksX0_person_4 4 rfl rfl)
theorem dX0_person_87 : decode cX0_person 87 = .ok (.aload_n 3, 1) := dk_45 (dk_at dksX0_person_4 5 rfl rfl)
theorem dX0_person_88 : decode cX0_person 88 = .ok (.getfield 270, 3) := dk_180 1 14 (dk_at dksX0_person_4 6 rfl rfl)
theorem dX0_person_91 : decode cX0_person 91 = .ok (.invokevirtual 102, 3) := dk_182 0 102 (dk_at dksX0_person_4 9 rfl rfl)
theorem dX0_person_94 : decode cX0_person 94 = .ok (.ireturn, 1) := dk_172 (dk_at dksX0_person_4 12 rfl rfl)
theorem dX0_person_95 : decode cX0_person 95 = .ok (.aload_n 0, 1) := dk_42 (dk_at dksX0_person_4 13 rfl rfl)
theorem dX0_person_96 : decode cX0_person 96 = .ok (.aload_n 3, 1) := dk_45 (dk_at dksX0_person_4 14 rfl rfl)
theorem dX0_person_97 : decode cX0_person 97 = .ok (.getfield 273, 3) := dk_180 1 17 (dk_at dksX0_person_4 15 rfl rfl)
theorem dX0_person_100 : decode cX0_person 100 = .ok (.invokevirtual 102, 3) := dk_182 0 102 (dk_at dksX0_person_4 18 rfl rfl)
theorem dX0_person_103 : decode cX0_person 103 = .ok (.ireturn, 1) := dk_172 (dk_at dksX0_person_4 21 rfl rfl)
theorem dX0_person_104 : decode cX0_person 104 = .ok (.aload_n 0, 1) := dk_42 (dk_at dksX0_person_4 22 rfl rfl)
theorem dX0_person_105 : decode cX0_person 105 = .ok (.aload_n 3, 1) := dk_45 (dk_at dksX0_person_4 23 rfl rfl)
theorem dX0_person_106 : decode cX0_person 106 = .ok (.invokevirtual 276, 3) := dk_182 1 20 (dk_at dksX0_person_5 0 rfl rfl)
theorem dX0_person_109 : decode cX0_person 109 = .ok (.invokevirtual 102, 3) := dk_182 0 102 (dk_at dksX0_person_5 3 rfl rfl)
theorem dX0_person_112 : decode cX0_person 112 = .ok (.ireturn, 1) := dk_172 (dk_at dksX0_person_5 6 rfl rfl)
theorem dX0_person_113 : decode cX0_person 113 = .ok (.aload_n 0, 1) := dk_42 (dk_at dksX0_person_5 7 rfl rfl)
theorem dX0_person_114 : decode cX0_person 114 = .ok (.iconst 5, 1) := dk_8 (dk_at dksX0_person_5 8 rfl rfl)
theorem dX0_person_115 : decode cX0_person 115 = .ok (.invokevirtual 98, 3) := dk_182 0 98 (dk_at dksX0_person_5 9 rfl rfl)
theorem dX0_person_118 : decode cX0_person 118 = .ok (.ireturn, 1) := dk_172 (dk_at dksX0_person_5 12 rfl rfl)
abbrev cX0_isPerson : ByteArray := prog_1_method_19_code
def yX0_isPerson : MethodName := ⟨RX0, "isPerson", "(I)Z"⟩
def dkwX0_isPerson_0 : List UInt8 := [27, 155, 0, 18, 27, 42, 180, 0, 38, 180, 0, 152, 162, 0, 7, 4, 167, 0, 4, 3, 172]
abbrev dktX0_isPerson_0 : List UInt8 := dkwX0_isPerson_0 ++ []
theorem dksX0_isPerson_0 : cX0_isPerson.data.toList.drop 0 = dktX0_isPerson_0 := by decide +kernel
theorem dX0_isPerson_0 : decode cX0_isPerson 0 = .ok (.iload_n 1, 1) := dk_27 (dk_at dksX0_isPerson_0 0 rfl rfl)
theorem dX0_isPerson_1 : decode cX0_isPerson 1 = .ok (.ifCond .lt 18, 3) := dk_155 0 18 (dk_at dksX0_isPerson_0 1 rfl rfl)
theorem dX0_isPerson_4 : decode cX0_isPerson 4 = .ok (.iload_n 1, 1) := dk_27 (dk_at dksX0_isPerson_0 4 rfl rfl)
theorem dX0_isPerson_5 : decode cX0_isPerson 5 = .ok (.aload_n 0, 1) := dk_42 (dk_at dksX0_isPerson_0 5 rfl rfl)
theorem dX0_isPerson_6 : decode cX0_isPerson 6 = .ok (.getfield 38, 3) := dk_180 0 38 (dk_at dksX0_isPerson_0 6 rfl rfl)
theorem dX0_isPerson_9 : decode cX0_isPerson 9 = .ok (.getfield 152, 3) := dk_180 0 152 (dk_at dksX0_isPerson_0 9 rfl rfl)
theorem dX0_isPerson_12 : decode cX0_isPerson 12 = .ok (.if_icmp .ge 7, 3) := dk_162 0 7 (dk_at dksX0_isPerson_0 12 rfl rfl)
theorem dX0_isPerson_15 : decode cX0_isPerson 15 = .ok (.iconst 1, 1) := dk_4 (dk_at dksX0_isPerson_0 15 rfl rfl)
theorem dX0_isPerson_16 : decode cX0_isPerson 16 = .ok (.goto 4, 3) := dk_167 0 4 (dk_at dksX0_isPerson_0 16 rfl rfl)
theorem dX0_isPerson_19 : decode cX0_isPerson 19 = .ok (.iconst 0, 1) := dk_3 (dk_at dksX0_isPerson_0 19 rfl rfl)
theorem dX0_isPerson_20 : decode cX0_isPerson 20 = .ok (.ireturn, 1) := dk_172 (dk_at dksX0_isPerson_0 20 rfl rfl)
abbrev cX0_strand : ByteArray := prog_1_method_35_code
def yX0_strand : MethodName := ⟨RX0, "strand", "(III)I"⟩
def dkwX0_strand_4 : List UInt8 := [172]
abbrev dktX0_strand_4 : List UInt8 := dkwX0_strand_4 ++ []
def dkwX0_strand_3 : List UInt8 := [29, 154, 0, 13, 25, 4, 180, 1, 26, 28, 46, 167, 0, 10, 25, 4, 180, 1, 29, 28, 46, 182, 0, 102]
abbrev dktX0_strand_3 : List UInt8 := dkwX0_strand_3 ++ dktX0_strand_4
def dkwX0_strand_2 : List UInt8 := [58, 4, 25, 4, 180, 1, 17, 28, 184, 1, 23, 154, 0, 12, 42, 16, 8, 182, 0, 98, 167, 0, 28, 42]
abbrev dktX0_strand_2 : List UInt8 := dkwX0_strand_2 ++ dktX0_strand_3
def dkwX0_strand_1 : List UInt8 := [9, 10, 184, 0, 162, 154, 0, 9, 42, 8, 182, 0, 98, 172, 42, 180, 0, 38, 180, 0, 211, 27, 50]
abbrev dktX0_strand_1 : List UInt8 := dkwX0_strand_1 ++ dktX0_strand_2
def dkwX0_strand_0 : List UInt8 := [42, 27, 182, 1, 8, 153, 0, 11, 42, 28, 182, 0, 242, 154, 0, 9, 42, 5, 182, 0, 98, 172, 29, 133]
abbrev dktX0_strand_0 : List UInt8 := dkwX0_strand_0 ++ dktX0_strand_1
theorem dksX0_strand_0 : cX0_strand.data.toList.drop 0 = dktX0_strand_0 := by decide +kernel
theorem dksX0_strand_1 : cX0_strand.data.toList.drop 24 = dktX0_strand_1 := dk_seg dksX0_strand_0 24 rfl rfl
theorem dksX0_strand_2 : cX0_strand.data.toList.drop 47 = dktX0_strand_2 := dk_seg dksX0_strand_1 23 rfl rfl
theorem dksX0_strand_3 : cX0_strand.data.toList.drop 71 = dktX0_strand_3 := dk_seg dksX0_strand_2 24 rfl rfl
theorem dksX0_strand_4 : cX0_strand.data.toList.drop 95 = dktX0_strand_4 := dk_seg dksX0_strand_3 24 rfl rfl
theorem dX0_strand_0 : decode cX0_strand 0 = .ok (.aload_n 0, 1) := dk_42 (dk_at dksX0_strand_0 0 rfl rfl)
theorem dX0_strand_1 : decode cX0_strand 1 = .ok (.iload_n 1, 1) := dk_27 (dk_at dksX0_strand_0 1 rfl rfl)
theorem dX0_strand_2 : decode cX0_strand 2 = .ok (.invokevirtual 264, 3) := dk_182 1 8 (dk_at dksX0_strand_0 2 rfl rfl)
theorem dX0_strand_5 : decode cX0_strand 5 = .ok (.ifCond .eq 11, 3) := dk_153 0 11 (dk_at dksX0_strand_0 5 rfl rfl)
theorem dX0_strand_8 : decode cX0_strand 8 = .ok (.aload_n 0, 1) := dk_42 (dk_at dksX0_strand_0 8 rfl rfl)
theorem dX0_strand_9 : decode cX0_strand 9 = .ok (.iload_n 2, 1) := dk_28 (dk_at dksX0_strand_0 9 rfl rfl)
theorem dX0_strand_10 : decode cX0_strand 10 = .ok (.invokevirtual 242, 3) := dk_182 0 242 (dk_at dksX0_strand_0 10 rfl rfl)
theorem dX0_strand_13 : decode cX0_strand 13 = .ok (.ifCond .ne 9, 3) := dk_154 0 9 (dk_at dksX0_strand_0 13 rfl rfl)
theorem dX0_strand_16 : decode cX0_strand 16 = .ok (.aload_n 0, 1) := dk_42 (dk_at dksX0_strand_0 16 rfl rfl)
theorem dX0_strand_17 : decode cX0_strand 17 = .ok (.iconst 2, 1) := dk_5 (dk_at dksX0_strand_0 17 rfl rfl)
theorem dX0_strand_18 : decode cX0_strand 18 = .ok (.invokevirtual 98, 3) := dk_182 0 98 (dk_at dksX0_strand_0 18 rfl rfl)
theorem dX0_strand_21 : decode cX0_strand 21 = .ok (.ireturn, 1) := dk_172 (dk_at dksX0_strand_0 21 rfl rfl)
theorem dX0_strand_22 : decode cX0_strand 22 = .ok (.iload_n 3, 1) := dk_29 (dk_at dksX0_strand_0 22 rfl rfl)
theorem dX0_strand_23 : decode cX0_strand 23 = .ok (.i2l, 1) := dk_133 (dk_at dksX0_strand_0 23 rfl rfl)
theorem dX0_strand_24 : decode cX0_strand 24 = .ok (.lconst 0, 1) := dk_9 (dk_at dksX0_strand_1 0 rfl rfl)
theorem dX0_strand_25 : decode cX0_strand 25 = .ok (.lconst 1, 1) := dk_10 (dk_at dksX0_strand_1 1 rfl rfl)
theorem dX0_strand_26 : decode cX0_strand 26 = .ok (.invokestatic 162, 3) := dk_184 0 162 (dk_at dksX0_strand_1 2 rfl rfl)
theorem dX0_strand_29 : decode cX0_strand 29 = .ok (.ifCond .ne 9, 3) := dk_154 0 9 (dk_at dksX0_strand_1 5 rfl rfl)
theorem dX0_strand_32 : decode cX0_strand 32 = .ok (.aload_n 0, 1) := dk_42 (dk_at dksX0_strand_1 8 rfl rfl)
theorem dX0_strand_33 : decode cX0_strand 33 = .ok (.iconst 5, 1) := dk_8 (dk_at dksX0_strand_1 9 rfl rfl)
theorem dX0_strand_34 : decode cX0_strand 34 = .ok (.invokevirtual 98, 3) := dk_182 0 98 (dk_at dksX0_strand_1 10 rfl rfl)
theorem dX0_strand_37 : decode cX0_strand 37 = .ok (.ireturn, 1) := dk_172 (dk_at dksX0_strand_1 13 rfl rfl)
theorem dX0_strand_38 : decode cX0_strand 38 = .ok (.aload_n 0, 1) := dk_42 (dk_at dksX0_strand_1 14 rfl rfl)
theorem dX0_strand_39 : decode cX0_strand 39 = .ok (.getfield 38, 3) := dk_180 0 38 (dk_at dksX0_strand_1 15 rfl rfl)
theorem dX0_strand_42 : decode cX0_strand 42 = .ok (.getfield 211, 3) := dk_180 0 211 (dk_at dksX0_strand_1 18 rfl rfl)
theorem dX0_strand_45 : decode cX0_strand 45 = .ok (.iload_n 1, 1) := dk_27 (dk_at dksX0_strand_1 21 rfl rfl)
theorem dX0_strand_46 : decode cX0_strand 46 = .ok (.aaload, 1) := dk_50 (dk_at dksX0_strand_1 22 rfl rfl)
theorem dX0_strand_47 : decode cX0_strand 47 = .ok (.astore 4, 2) := dk_58 4 (dk_at dksX0_strand_2 0 rfl rfl)
theorem dX0_strand_49 : decode cX0_strand 49 = .ok (.aload 4, 2) := dk_25 4 (dk_at dksX0_strand_2 2 rfl rfl)
theorem dX0_strand_51 : decode cX0_strand 51 = .ok (.getfield 273, 3) := dk_180 1 17 (dk_at dksX0_strand_2 4 rfl rfl)
theorem dX0_strand_54 : decode cX0_strand 54 = .ok (.iload_n 2, 1) := dk_28 (dk_at dksX0_strand_2 7 rfl rfl)
theorem dX0_strand_55 : decode cX0_strand 55 = .ok (.invokestatic 279, 3) := dk_184 1 23 (dk_at dksX0_strand_2 8 rfl rfl)
theorem dX0_strand_58 : decode cX0_strand 58 = .ok (.ifCond .ne 12, 3) := dk_154 0 12 (dk_at dksX0_strand_2 11 rfl rfl)
theorem dX0_strand_61 : decode cX0_strand 61 = .ok (.aload_n 0, 1) := dk_42 (dk_at dksX0_strand_2 14 rfl rfl)
theorem dX0_strand_62 : decode cX0_strand 62 = .ok (.bipush 8, 2) := dk_16 8 (dk_at dksX0_strand_2 15 rfl rfl)
theorem dX0_strand_64 : decode cX0_strand 64 = .ok (.invokevirtual 98, 3) := dk_182 0 98 (dk_at dksX0_strand_2 17 rfl rfl)
theorem dX0_strand_67 : decode cX0_strand 67 = .ok (.goto 28, 3) := dk_167 0 28 (dk_at dksX0_strand_2 20 rfl rfl)
theorem dX0_strand_70 : decode cX0_strand 70 = .ok (.aload_n 0, 1) := dk_42 (dk_at dksX0_strand_2 23 rfl rfl)
theorem dX0_strand_71 : decode cX0_strand 71 = .ok (.iload_n 3, 1) := dk_29 (dk_at dksX0_strand_3 0 rfl rfl)
theorem dX0_strand_72 : decode cX0_strand 72 = .ok (.ifCond .ne 13, 3) := dk_154 0 13 (dk_at dksX0_strand_3 1 rfl rfl)
theorem dX0_strand_75 : decode cX0_strand 75 = .ok (.aload 4, 2) := dk_25 4 (dk_at dksX0_strand_3 4 rfl rfl)
theorem dX0_strand_77 : decode cX0_strand 77 = .ok (.getfield 282, 3) := dk_180 1 26 (dk_at dksX0_strand_3 6 rfl rfl)
theorem dX0_strand_80 : decode cX0_strand 80 = .ok (.iload_n 2, 1) := dk_28 (dk_at dksX0_strand_3 9 rfl rfl)
theorem dX0_strand_81 : decode cX0_strand 81 = .ok (.iaload, 1) := dk_46 (dk_at dksX0_strand_3 10 rfl rfl)
theorem dX0_strand_82 : decode cX0_strand 82 = .ok (.goto 10, 3) := dk_167 0 10 (dk_at dksX0_strand_3 11 rfl rfl)
theorem dX0_strand_85 : decode cX0_strand 85 = .ok (.aload 4, 2) := dk_25 4 (dk_at dksX0_strand_3 14 rfl rfl)
theorem dX0_strand_87 : decode cX0_strand 87 = .ok (.getfield 285, 3) := dk_180 1 29 (dk_at dksX0_strand_3 16 rfl rfl)
theorem dX0_strand_90 : decode cX0_strand 90 = .ok (.iload_n 2, 1) := dk_28 (dk_at dksX0_strand_3 19 rfl rfl)
theorem dX0_strand_91 : decode cX0_strand 91 = .ok (.iaload, 1) := dk_46 (dk_at dksX0_strand_3 20 rfl rfl)
theorem dX0_strand_92 : decode cX0_strand 92 = .ok (.invokevirtual 102, 3) := dk_182 0 102 (dk_at dksX0_strand_3 21 rfl rfl)
theorem dX0_strand_95 : decode cX0_strand 95 = .ok (.ireturn, 1) := dk_172 (dk_at dksX0_strand_4 0 rfl rfl)
abbrev cX0_isFrom : ByteArray := prog_1_method_17_code
def yX0_isFrom : MethodName := ⟨RX0, "isFrom", "(JJJ)Z"⟩
def dkwX0_isFrom_0 : List UInt8 := [30, 32, 148, 155, 0, 14, 30, 22, 4, 148, 157, 0, 7, 4, 167, 0, 4, 3, 172]
abbrev dktX0_isFrom_0 : List UInt8 := dkwX0_isFrom_0 ++ []
theorem dksX0_isFrom_0 : cX0_isFrom.data.toList.drop 0 = dktX0_isFrom_0 := by decide +kernel
theorem dX0_isFrom_0 : decode cX0_isFrom 0 = .ok (.lload_n 0, 1) := dk_30 (dk_at dksX0_isFrom_0 0 rfl rfl)
theorem dX0_isFrom_1 : decode cX0_isFrom 1 = .ok (.lload_n 2, 1) := dk_32 (dk_at dksX0_isFrom_0 1 rfl rfl)
theorem dX0_isFrom_2 : decode cX0_isFrom 2 = .ok (.lcmp, 1) := dk_148 (dk_at dksX0_isFrom_0 2 rfl rfl)
theorem dX0_isFrom_3 : decode cX0_isFrom 3 = .ok (.ifCond .lt 14, 3) := dk_155 0 14 (dk_at dksX0_isFrom_0 3 rfl rfl)
theorem dX0_isFrom_6 : decode cX0_isFrom 6 = .ok (.lload_n 0, 1) := dk_30 (dk_at dksX0_isFrom_0 6 rfl rfl)
theorem dX0_isFrom_7 : decode cX0_isFrom 7 = .ok (.lload 4, 2) := dk_22 4 (dk_at dksX0_isFrom_0 7 rfl rfl)
theorem dX0_isFrom_9 : decode cX0_isFrom 9 = .ok (.lcmp, 1) := dk_148 (dk_at dksX0_isFrom_0 9 rfl rfl)
theorem dX0_isFrom_10 : decode cX0_isFrom 10 = .ok (.ifCond .gt 7, 3) := dk_157 0 7 (dk_at dksX0_isFrom_0 10 rfl rfl)
theorem dX0_isFrom_13 : decode cX0_isFrom 13 = .ok (.iconst 1, 1) := dk_4 (dk_at dksX0_isFrom_0 13 rfl rfl)
theorem dX0_isFrom_14 : decode cX0_isFrom 14 = .ok (.goto 4, 3) := dk_167 0 4 (dk_at dksX0_isFrom_0 14 rfl rfl)
theorem dX0_isFrom_17 : decode cX0_isFrom 17 = .ok (.iconst 0, 1) := dk_3 (dk_at dksX0_isFrom_0 17 rfl rfl)
theorem dX0_isFrom_18 : decode cX0_isFrom 18 = .ok (.ireturn, 1) := dk_172 (dk_at dksX0_isFrom_0 18 rfl rfl)
abbrev cX0_dinner : ByteArray := prog_1_method_36_code
def yX0_dinner : MethodName := ⟨RX0, "dinner", "(II)I"⟩
def dkwX0_dinner_4 : List UInt8 := [182, 0, 102, 172, 42, 8, 182, 0, 98, 172]
abbrev dktX0_dinner_4 : List UInt8 := dkwX0_dinner_4 ++ []
def dkwX0_dinner_3 : List UInt8 := [42, 45, 180, 1, 39, 182, 0, 102, 172, 42, 45, 180, 1, 44, 182, 0, 102, 172, 42, 45, 180, 1, 47]
abbrev dktX0_dinner_3 : List UInt8 := dkwX0_dinner_3 ++ dktX0_dinner_4
def dkwX0_dinner_2 : List UInt8 := [170, 0, 0, 0, 0, 0, 54, 0, 0, 0, 0, 0, 0, 0, 2, 0, 0, 0, 27, 0, 0, 0, 36, 0, 0, 0, 45]
abbrev dktX0_dinner_2 : List UInt8 := dkwX0_dinner_2 ++ dktX0_dinner_3
def dkwX0_dinner_1 : List UInt8 := [28]
abbrev dktX0_dinner_1 : List UInt8 := dkwX0_dinner_1 ++ dktX0_dinner_2
def dkwX0_dinner_0 : List UInt8 := [42, 27, 182, 1, 32, 154, 0, 9, 42, 5, 182, 0, 98, 172, 42, 180, 0, 38, 180, 1, 35, 27, 50, 78]
abbrev dktX0_dinner_0 : List UInt8 := dkwX0_dinner_0 ++ dktX0_dinner_1
theorem dksX0_dinner_0 : cX0_dinner.data.toList.drop 0 = dktX0_dinner_0 := by decide +kernel
theorem dksX0_dinner_1 : cX0_dinner.data.toList.drop 24 = dktX0_dinner_1 := dk_seg dksX0_dinner_0 24 rfl rfl
theorem dksX0_dinner_2 : cX0_dinner.data.toList.drop 25 = dktX0_dinner_2 := dk_seg dksX0_dinner_1 1 rfl rfl
theorem dksX0_dinner_3 : cX0_dinner.data.toList.drop 52 = dktX0_dinner_3 := dk_seg dksX0_dinner_2 27 rfl rfl
theorem dksX0_dinner_4 : cX0_dinner.data.toList.drop 75 = dktX0_dinner_4 := dk_seg dksX0_dinner_3 23 rfl rfl
theorem dX0_dinner_0 : decode cX0_dinner 0 = .ok (.aload_n 0, 1) := dk_42 (dk_at dksX0_dinner_0 0 rfl rfl)
theorem dX0_dinner_1 : decode cX0_dinner 1 = .ok (.iload_n 1, 1) := dk_27 (dk_at dksX0_dinner_0 1 rfl rfl)
theorem dX0_dinner_2 : decode cX0_dinner 2 = .ok (.invokevirtual 288, 3) := dk_182 1 32 (dk_at dksX0_dinner_0 2 rfl rfl)
theorem dX0_dinner_5 : decode cX0_dinner 5 = .ok (.ifCond .ne 9, 3) := dk_154 0 9 (dk_at dksX0_dinner_0 5 rfl rfl)
theorem dX0_dinner_8 : decode cX0_dinner 8 = .ok (.aload_n 0, 1) := dk_42 (dk_at dksX0_dinner_0 8 rfl rfl)
theorem dX0_dinner_9 : decode cX0_dinner 9 = .ok (.iconst 2, 1) := dk_5 (dk_at dksX0_dinner_0 9 rfl rfl)
theorem dX0_dinner_10 : decode cX0_dinner 10 = .ok (.invokevirtual 98, 3) := dk_182 0 98 (dk_at dksX0_dinner_0 10 rfl rfl)
theorem dX0_dinner_13 : decode cX0_dinner 13 = .ok (.ireturn, 1) := dk_172 (dk_at dksX0_dinner_0 13 rfl rfl)
theorem dX0_dinner_14 : decode cX0_dinner 14 = .ok (.aload_n 0, 1) := dk_42 (dk_at dksX0_dinner_0 14 rfl rfl)
theorem dX0_dinner_15 : decode cX0_dinner 15 = .ok (.getfield 38, 3) := dk_180 0 38 (dk_at dksX0_dinner_0 15 rfl rfl)
theorem dX0_dinner_18 : decode cX0_dinner 18 = .ok (.getfield 291, 3) := dk_180 1 35 (dk_at dksX0_dinner_0 18 rfl rfl)
theorem dX0_dinner_21 : decode cX0_dinner 21 = .ok (.iload_n 1, 1) := dk_27 (dk_at dksX0_dinner_0 21 rfl rfl)
theorem dX0_dinner_22 : decode cX0_dinner 22 = .ok (.aaload, 1) := dk_50 (dk_at dksX0_dinner_0 22 rfl rfl)
theorem dX0_dinner_23 : decode cX0_dinner 23 = .ok (.astore_n 3, 1) := dk_78 (dk_at dksX0_dinner_0 23 rfl rfl)
theorem dX0_dinner_24 : decode cX0_dinner 24 = .ok (.iload_n 2, 1) := dk_28 (dk_at dksX0_dinner_1 0 rfl rfl)
theorem dX0_dinner_25 : decode cX0_dinner 25 = .ok (.tableswitch 54 0 2 #[27, 36, 45], 27) := by decide +kernel
theorem dX0_dinner_52 : decode cX0_dinner 52 = .ok (.aload_n 0, 1) := dk_42 (dk_at dksX0_dinner_3 0 rfl rfl)
theorem dX0_dinner_53 : decode cX0_dinner 53 = .ok (.aload_n 3, 1) := dk_45 (dk_at dksX0_dinner_3 1 rfl rfl)
theorem dX0_dinner_54 : decode cX0_dinner 54 = .ok (.getfield 295, 3) := dk_180 1 39 (dk_at dksX0_dinner_3 2 rfl rfl)
theorem dX0_dinner_57 : decode cX0_dinner 57 = .ok (.invokevirtual 102, 3) := dk_182 0 102 (dk_at dksX0_dinner_3 5 rfl rfl)
theorem dX0_dinner_60 : decode cX0_dinner 60 = .ok (.ireturn, 1) := dk_172 (dk_at dksX0_dinner_3 8 rfl rfl)
theorem dX0_dinner_61 : decode cX0_dinner 61 = .ok (.aload_n 0, 1) := dk_42 (dk_at dksX0_dinner_3 9 rfl rfl)
theorem dX0_dinner_62 : decode cX0_dinner 62 = .ok (.aload_n 3, 1) := dk_45 (dk_at dksX0_dinner_3 10 rfl rfl)
theorem dX0_dinner_63 : decode cX0_dinner 63 = .ok (.getfield 300, 3) := dk_180 1 44 (dk_at dksX0_dinner_3 11 rfl rfl)
theorem dX0_dinner_66 : decode cX0_dinner 66 = .ok (.invokevirtual 102, 3) := dk_182 0 102 (dk_at dksX0_dinner_3 14 rfl rfl)
theorem dX0_dinner_69 : decode cX0_dinner 69 = .ok (.ireturn, 1) := dk_172 (dk_at dksX0_dinner_3 17 rfl rfl)
theorem dX0_dinner_70 : decode cX0_dinner 70 = .ok (.aload_n 0, 1) := dk_42 (dk_at dksX0_dinner_3 18 rfl rfl)
theorem dX0_dinner_71 : decode cX0_dinner 71 = .ok (.aload_n 3, 1) := dk_45 (dk_at dksX0_dinner_3 19 rfl rfl)
theorem dX0_dinner_72 : decode cX0_dinner 72 = .ok (.getfield 303, 3) := dk_180 1 47 (dk_at dksX0_dinner_3 20 rfl rfl)
theorem dX0_dinner_75 : decode cX0_dinner 75 = .ok (.invokevirtual 102, 3) := dk_182 0 102 (dk_at dksX0_dinner_4 0 rfl rfl)
theorem dX0_dinner_78 : decode cX0_dinner 78 = .ok (.ireturn, 1) := dk_172 (dk_at dksX0_dinner_4 3 rfl rfl)
theorem dX0_dinner_79 : decode cX0_dinner 79 = .ok (.aload_n 0, 1) := dk_42 (dk_at dksX0_dinner_4 4 rfl rfl)
theorem dX0_dinner_80 : decode cX0_dinner 80 = .ok (.iconst 5, 1) := dk_8 (dk_at dksX0_dinner_4 5 rfl rfl)
theorem dX0_dinner_81 : decode cX0_dinner 81 = .ok (.invokevirtual 98, 3) := dk_182 0 98 (dk_at dksX0_dinner_4 6 rfl rfl)
theorem dX0_dinner_84 : decode cX0_dinner 84 = .ok (.ireturn, 1) := dk_172 (dk_at dksX0_dinner_4 9 rfl rfl)
abbrev cX0_isDinner : ByteArray := prog_1_method_20_code
def yX0_isDinner : MethodName := ⟨RX0, "isDinner", "(I)Z"⟩
def dkwX0_isDinner_0 : List UInt8 := [27, 155, 0, 18, 27, 42, 180, 0, 38, 180, 0, 155, 162, 0, 7, 4, 167, 0, 4, 3, 172]
abbrev dktX0_isDinner_0 : List UInt8 := dkwX0_isDinner_0 ++ []
theorem dksX0_isDinner_0 : cX0_isDinner.data.toList.drop 0 = dktX0_isDinner_0 := by decide +kernel
theorem dX0_isDinner_0 : decode cX0_isDinner 0 = .ok (.iload_n 1, 1) := dk_27 (dk_at dksX0_isDinner_0 0 rfl rfl)
theorem dX0_isDinner_1 : decode cX0_isDinner 1 = .ok (.ifCond .lt 18, 3) := dk_155 0 18 (dk_at dksX0_isDinner_0 1 rfl rfl)
theorem dX0_isDinner_4 : decode cX0_isDinner 4 = .ok (.iload_n 1, 1) := dk_27 (dk_at dksX0_isDinner_0 4 rfl rfl)
theorem dX0_isDinner_5 : decode cX0_isDinner 5 = .ok (.aload_n 0, 1) := dk_42 (dk_at dksX0_isDinner_0 5 rfl rfl)
theorem dX0_isDinner_6 : decode cX0_isDinner 6 = .ok (.getfield 38, 3) := dk_180 0 38 (dk_at dksX0_isDinner_0 6 rfl rfl)
theorem dX0_isDinner_9 : decode cX0_isDinner 9 = .ok (.getfield 155, 3) := dk_180 0 155 (dk_at dksX0_isDinner_0 9 rfl rfl)
theorem dX0_isDinner_12 : decode cX0_isDinner 12 = .ok (.if_icmp .ge 7, 3) := dk_162 0 7 (dk_at dksX0_isDinner_0 12 rfl rfl)
theorem dX0_isDinner_15 : decode cX0_isDinner 15 = .ok (.iconst 1, 1) := dk_4 (dk_at dksX0_isDinner_0 15 rfl rfl)
theorem dX0_isDinner_16 : decode cX0_isDinner 16 = .ok (.goto 4, 3) := dk_167 0 4 (dk_at dksX0_isDinner_0 16 rfl rfl)
theorem dX0_isDinner_19 : decode cX0_isDinner 19 = .ok (.iconst 0, 1) := dk_3 (dk_at dksX0_isDinner_0 19 rfl rfl)
theorem dX0_isDinner_20 : decode cX0_isDinner 20 = .ok (.ireturn, 1) := dk_172 (dk_at dksX0_isDinner_0 20 rfl rfl)
abbrev cX0_longest : ByteArray := prog_1_method_37_code
def yX0_longest : MethodName := ⟨RX0, "longest", "(I)I"⟩
def dkwX0_longest_1 : List UInt8 := [182, 1, 53, 167, 0, 8, 42, 5, 182, 0, 98, 172]
abbrev dktX0_longest_1 : List UInt8 := dkwX0_longest_1 ++ []
def dkwX0_longest_0 : List UInt8 := [42, 27, 182, 1, 8, 153, 0, 23, 42, 42, 180, 0, 38, 180, 0, 211, 27, 50, 2, 182, 1, 50]
abbrev dktX0_longest_0 : List UInt8 := dkwX0_longest_0 ++ dktX0_longest_1
theorem dksX0_longest_0 : cX0_longest.data.toList.drop 0 = dktX0_longest_0 := by decide +kernel
theorem dksX0_longest_1 : cX0_longest.data.toList.drop 22 = dktX0_longest_1 := dk_seg dksX0_longest_0 22 rfl rfl
theorem dX0_longest_0 : decode cX0_longest 0 = .ok (.aload_n 0, 1) := dk_42 (dk_at dksX0_longest_0 0 rfl rfl)
theorem dX0_longest_1 : decode cX0_longest 1 = .ok (.iload_n 1, 1) := dk_27 (dk_at dksX0_longest_0 1 rfl rfl)
theorem dX0_longest_2 : decode cX0_longest 2 = .ok (.invokevirtual 264, 3) := dk_182 1 8 (dk_at dksX0_longest_0 2 rfl rfl)
theorem dX0_longest_5 : decode cX0_longest 5 = .ok (.ifCond .eq 23, 3) := dk_153 0 23 (dk_at dksX0_longest_0 5 rfl rfl)
theorem dX0_longest_8 : decode cX0_longest 8 = .ok (.aload_n 0, 1) := dk_42 (dk_at dksX0_longest_0 8 rfl rfl)
theorem dX0_longest_9 : decode cX0_longest 9 = .ok (.aload_n 0, 1) := dk_42 (dk_at dksX0_longest_0 9 rfl rfl)
theorem dX0_longest_10 : decode cX0_longest 10 = .ok (.getfield 38, 3) := dk_180 0 38 (dk_at dksX0_longest_0 10 rfl rfl)
theorem dX0_longest_13 : decode cX0_longest 13 = .ok (.getfield 211, 3) := dk_180 0 211 (dk_at dksX0_longest_0 13 rfl rfl)
theorem dX0_longest_16 : decode cX0_longest 16 = .ok (.iload_n 1, 1) := dk_27 (dk_at dksX0_longest_0 16 rfl rfl)
theorem dX0_longest_17 : decode cX0_longest 17 = .ok (.aaload, 1) := dk_50 (dk_at dksX0_longest_0 17 rfl rfl)
theorem dX0_longest_18 : decode cX0_longest 18 = .ok (.iconst (-1), 1) := dk_2 (dk_at dksX0_longest_0 18 rfl rfl)
theorem dX0_longest_19 : decode cX0_longest 19 = .ok (.invokevirtual 306, 3) := dk_182 1 50 (dk_at dksX0_longest_0 19 rfl rfl)
theorem dX0_longest_22 : decode cX0_longest 22 = .ok (.invokevirtual 309, 3) := dk_182 1 53 (dk_at dksX0_longest_1 0 rfl rfl)
theorem dX0_longest_25 : decode cX0_longest 25 = .ok (.goto 8, 3) := dk_167 0 8 (dk_at dksX0_longest_1 3 rfl rfl)
theorem dX0_longest_28 : decode cX0_longest 28 = .ok (.aload_n 0, 1) := dk_42 (dk_at dksX0_longest_1 6 rfl rfl)
theorem dX0_longest_29 : decode cX0_longest 29 = .ok (.iconst 2, 1) := dk_5 (dk_at dksX0_longest_1 7 rfl rfl)
theorem dX0_longest_30 : decode cX0_longest 30 = .ok (.invokevirtual 98, 3) := dk_182 0 98 (dk_at dksX0_longest_1 8 rfl rfl)
theorem dX0_longest_33 : decode cX0_longest 33 = .ok (.ireturn, 1) := dk_172 (dk_at dksX0_longest_1 11 rfl rfl)
abbrev cX0_orNothing : ByteArray := prog_1_method_10_code
def yX0_orNothing : MethodName := ⟨RX0, "orNothing", "(I)I"⟩
def dkwX0_orNothing_0 : List UInt8 := [27, 2, 160, 0, 12, 42, 16, 8, 182, 0, 98, 167, 0, 8, 42, 27, 182, 0, 102, 172]
abbrev dktX0_orNothing_0 : List UInt8 := dkwX0_orNothing_0 ++ []
theorem dksX0_orNothing_0 : cX0_orNothing.data.toList.drop 0 = dktX0_orNothing_0 := by decide +kernel
theorem dX0_orNothing_0 : decode cX0_orNothing 0 = .ok (.iload_n 1, 1) := dk_27 (dk_at dksX0_orNothing_0 0 rfl rfl)
theorem dX0_orNothing_1 : decode cX0_orNothing 1 = .ok (.iconst (-1), 1) := dk_2 (dk_at dksX0_orNothing_0 1 rfl rfl)
theorem dX0_orNothing_2 : decode cX0_orNothing 2 = .ok (.if_icmp .ne 12, 3) := dk_160 0 12 (dk_at dksX0_orNothing_0 2 rfl rfl)
theorem dX0_orNothing_5 : decode cX0_orNothing 5 = .ok (.aload_n 0, 1) := dk_42 (dk_at dksX0_orNothing_0 5 rfl rfl)
theorem dX0_orNothing_6 : decode cX0_orNothing 6 = .ok (.bipush 8, 2) := dk_16 8 (dk_at dksX0_orNothing_0 6 rfl rfl)
theorem dX0_orNothing_8 : decode cX0_orNothing 8 = .ok (.invokevirtual 98, 3) := dk_182 0 98 (dk_at dksX0_orNothing_0 8 rfl rfl)
theorem dX0_orNothing_11 : decode cX0_orNothing 11 = .ok (.goto 8, 3) := dk_167 0 8 (dk_at dksX0_orNothing_0 11 rfl rfl)
theorem dX0_orNothing_14 : decode cX0_orNothing 14 = .ok (.aload_n 0, 1) := dk_42 (dk_at dksX0_orNothing_0 14 rfl rfl)
theorem dX0_orNothing_15 : decode cX0_orNothing 15 = .ok (.iload_n 1, 1) := dk_27 (dk_at dksX0_orNothing_0 15 rfl rfl)
theorem dX0_orNothing_16 : decode cX0_orNothing 16 = .ok (.invokevirtual 102, 3) := dk_182 0 102 (dk_at dksX0_orNothing_0 16 rfl rfl)
theorem dX0_orNothing_19 : decode cX0_orNothing 19 = .ok (.ireturn, 1) := dk_172 (dk_at dksX0_orNothing_0 19 rfl rfl)
abbrev cX0_copyHair : ByteArray := prog_1_method_38_code
def yX0_copyHair : MethodName := ⟨RX0, "copyHair", "(I)I"⟩
def dkwX0_copyHair_4 : List UInt8 := [180, 0, 152, 182, 0, 102, 172]
abbrev dktX0_copyHair_4 : List UInt8 := dkwX0_copyHair_4 ++ []
def dkwX0_copyHair_3 : List UInt8 := [180, 0, 211, 29, 50, 182, 1, 20, 133, 182, 0, 118, 132, 3, 1, 167, 255, 224, 42, 42, 180, 0, 38]
abbrev dktX0_copyHair_3 : List UInt8 := dkwX0_copyHair_3 ++ dktX0_copyHair_4
def dkwX0_copyHair_2 : List UInt8 := [7, 182, 0, 98, 172, 3, 62, 29, 42, 180, 0, 38, 180, 0, 152, 162, 0, 27, 44, 29, 42, 180, 0, 38]
abbrev dktX0_copyHair_2 : List UInt8 := dkwX0_copyHair_2 ++ dktX0_copyHair_3
def dkwX0_copyHair_1 : List UInt8 := [199, 0, 9, 42, 6, 182, 0, 98, 172, 44, 182, 1, 56, 42, 180, 0, 38, 180, 0, 152, 162, 0, 9, 42]
abbrev dktX0_copyHair_1 : List UInt8 := dkwX0_copyHair_1 ++ dktX0_copyHair_2
def dkwX0_copyHair_0 : List UInt8 := [27, 184, 0, 109, 154, 0, 9, 42, 4, 182, 0, 98, 172, 42, 180, 0, 11, 27, 50, 77, 44, 180, 0, 132]
abbrev dktX0_copyHair_0 : List UInt8 := dkwX0_copyHair_0 ++ dktX0_copyHair_1
theorem dksX0_copyHair_0 : cX0_copyHair.data.toList.drop 0 = dktX0_copyHair_0 := by decide +kernel
theorem dksX0_copyHair_1 : cX0_copyHair.data.toList.drop 24 = dktX0_copyHair_1 := dk_seg dksX0_copyHair_0 24 rfl rfl
theorem dksX0_copyHair_2 : cX0_copyHair.data.toList.drop 48 = dktX0_copyHair_2 := dk_seg dksX0_copyHair_1 24 rfl rfl
theorem dksX0_copyHair_3 : cX0_copyHair.data.toList.drop 72 = dktX0_copyHair_3 := dk_seg dksX0_copyHair_2 24 rfl rfl
theorem dksX0_copyHair_4 : cX0_copyHair.data.toList.drop 95 = dktX0_copyHair_4 := dk_seg dksX0_copyHair_3 23 rfl rfl
theorem dX0_copyHair_0 : decode cX0_copyHair 0 = .ok (.iload_n 1, 1) := dk_27 (dk_at dksX0_copyHair_0 0 rfl rfl)
theorem dX0_copyHair_1 : decode cX0_copyHair 1 = .ok (.invokestatic 109, 3) := dk_184 0 109 (dk_at dksX0_copyHair_0 1 rfl rfl)
theorem dX0_copyHair_4 : decode cX0_copyHair 4 = .ok (.ifCond .ne 9, 3) := dk_154 0 9 (dk_at dksX0_copyHair_0 4 rfl rfl)
theorem dX0_copyHair_7 : decode cX0_copyHair 7 = .ok (.aload_n 0, 1) := dk_42 (dk_at dksX0_copyHair_0 7 rfl rfl)
theorem dX0_copyHair_8 : decode cX0_copyHair 8 = .ok (.iconst 1, 1) := dk_4 (dk_at dksX0_copyHair_0 8 rfl rfl)
theorem dX0_copyHair_9 : decode cX0_copyHair 9 = .ok (.invokevirtual 98, 3) := dk_182 0 98 (dk_at dksX0_copyHair_0 9 rfl rfl)
theorem dX0_copyHair_12 : decode cX0_copyHair 12 = .ok (.ireturn, 1) := dk_172 (dk_at dksX0_copyHair_0 12 rfl rfl)
theorem dX0_copyHair_13 : decode cX0_copyHair 13 = .ok (.aload_n 0, 1) := dk_42 (dk_at dksX0_copyHair_0 13 rfl rfl)
theorem dX0_copyHair_14 : decode cX0_copyHair 14 = .ok (.getfield 11, 3) := dk_180 0 11 (dk_at dksX0_copyHair_0 14 rfl rfl)
theorem dX0_copyHair_17 : decode cX0_copyHair 17 = .ok (.iload_n 1, 1) := dk_27 (dk_at dksX0_copyHair_0 17 rfl rfl)
theorem dX0_copyHair_18 : decode cX0_copyHair 18 = .ok (.aaload, 1) := dk_50 (dk_at dksX0_copyHair_0 18 rfl rfl)
theorem dX0_copyHair_19 : decode cX0_copyHair 19 = .ok (.astore_n 2, 1) := dk_77 (dk_at dksX0_copyHair_0 19 rfl rfl)
theorem dX0_copyHair_20 : decode cX0_copyHair 20 = .ok (.aload_n 2, 1) := dk_44 (dk_at dksX0_copyHair_0 20 rfl rfl)
theorem dX0_copyHair_21 : decode cX0_copyHair 21 = .ok (.getfield 132, 3) := dk_180 0 132 (dk_at dksX0_copyHair_0 21 rfl rfl)
theorem dX0_copyHair_24 : decode cX0_copyHair 24 = .ok (.ifnonnull 9, 3) := dk_199 0 9 (dk_at dksX0_copyHair_1 0 rfl rfl)
theorem dX0_copyHair_27 : decode cX0_copyHair 27 = .ok (.aload_n 0, 1) := dk_42 (dk_at dksX0_copyHair_1 3 rfl rfl)
theorem dX0_copyHair_28 : decode cX0_copyHair 28 = .ok (.iconst 3, 1) := dk_6 (dk_at dksX0_copyHair_1 4 rfl rfl)
theorem dX0_copyHair_29 : decode cX0_copyHair 29 = .ok (.invokevirtual 98, 3) := dk_182 0 98 (dk_at dksX0_copyHair_1 5 rfl rfl)
theorem dX0_copyHair_32 : decode cX0_copyHair 32 = .ok (.ireturn, 1) := dk_172 (dk_at dksX0_copyHair_1 8 rfl rfl)
theorem dX0_copyHair_33 : decode cX0_copyHair 33 = .ok (.aload_n 2, 1) := dk_44 (dk_at dksX0_copyHair_1 9 rfl rfl)
theorem dX0_copyHair_34 : decode cX0_copyHair 34 = .ok (.invokevirtual 312, 3) := dk_182 1 56 (dk_at dksX0_copyHair_1 10 rfl rfl)
theorem dX0_copyHair_37 : decode cX0_copyHair 37 = .ok (.aload_n 0, 1) := dk_42 (dk_at dksX0_copyHair_1 13 rfl rfl)
theorem dX0_copyHair_38 : decode cX0_copyHair 38 = .ok (.getfield 38, 3) := dk_180 0 38 (dk_at dksX0_copyHair_1 14 rfl rfl)
theorem dX0_copyHair_41 : decode cX0_copyHair 41 = .ok (.getfield 152, 3) := dk_180 0 152 (dk_at dksX0_copyHair_1 17 rfl rfl)
theorem dX0_copyHair_44 : decode cX0_copyHair 44 = .ok (.if_icmp .ge 9, 3) := dk_162 0 9 (dk_at dksX0_copyHair_1 20 rfl rfl)
theorem dX0_copyHair_47 : decode cX0_copyHair 47 = .ok (.aload_n 0, 1) := dk_42 (dk_at dksX0_copyHair_1 23 rfl rfl)
theorem dX0_copyHair_48 : decode cX0_copyHair 48 = .ok (.iconst 4, 1) := dk_7 (dk_at dksX0_copyHair_2 0 rfl rfl)
theorem dX0_copyHair_49 : decode cX0_copyHair 49 = .ok (.invokevirtual 98, 3) := dk_182 0 98 (dk_at dksX0_copyHair_2 1 rfl rfl)
theorem dX0_copyHair_52 : decode cX0_copyHair 52 = .ok (.ireturn, 1) := dk_172 (dk_at dksX0_copyHair_2 4 rfl rfl)
theorem dX0_copyHair_53 : decode cX0_copyHair 53 = .ok (.iconst 0, 1) := dk_3 (dk_at dksX0_copyHair_2 5 rfl rfl)
theorem dX0_copyHair_54 : decode cX0_copyHair 54 = .ok (.istore_n 3, 1) := dk_62 (dk_at dksX0_copyHair_2 6 rfl rfl)
theorem dX0_copyHair_55 : decode cX0_copyHair 55 = .ok (.iload_n 3, 1) := dk_29 (dk_at dksX0_copyHair_2 7 rfl rfl)
theorem dX0_copyHair_56 : decode cX0_copyHair 56 = .ok (.aload_n 0, 1) := dk_42 (dk_at dksX0_copyHair_2 8 rfl rfl)
theorem dX0_copyHair_57 : decode cX0_copyHair 57 = .ok (.getfield 38, 3) := dk_180 0 38 (dk_at dksX0_copyHair_2 9 rfl rfl)
theorem dX0_copyHair_60 : decode cX0_copyHair 60 = .ok (.getfield 152, 3) := dk_180 0 152 (dk_at dksX0_copyHair_2 12 rfl rfl)
theorem dX0_copyHair_63 : decode cX0_copyHair 63 = .ok (.if_icmp .ge 27, 3) := dk_162 0 27 (dk_at dksX0_copyHair_2 15 rfl rfl)
theorem dX0_copyHair_66 : decode cX0_copyHair 66 = .ok (.aload_n 2, 1) := dk_44 (dk_at dksX0_copyHair_2 18 rfl rfl)
theorem dX0_copyHair_67 : decode cX0_copyHair 67 = .ok (.iload_n 3, 1) := dk_29 (dk_at dksX0_copyHair_2 19 rfl rfl)
theorem dX0_copyHair_68 : decode cX0_copyHair 68 = .ok (.aload_n 0, 1) := dk_42 (dk_at dksX0_copyHair_2 20 rfl rfl)
theorem dX0_copyHair_69 : decode cX0_copyHair 69 = .ok (.getfield 38, 3) := dk_180 0 38 (dk_at dksX0_copyHair_2 21 rfl rfl)
theorem dX0_copyHair_72 : decode cX0_copyHair 72 = .ok (.getfield 211, 3) := dk_180 0 211 (dk_at dksX0_copyHair_3 0 rfl rfl)
theorem dX0_copyHair_75 : decode cX0_copyHair 75 = .ok (.iload_n 3, 1) := dk_29 (dk_at dksX0_copyHair_3 3 rfl rfl)
theorem dX0_copyHair_76 : decode cX0_copyHair 76 = .ok (.aaload, 1) := dk_50 (dk_at dksX0_copyHair_3 4 rfl rfl)
theorem dX0_copyHair_77 : decode cX0_copyHair 77 = .ok (.invokevirtual 276, 3) := dk_182 1 20 (dk_at dksX0_copyHair_3 5 rfl rfl)
theorem dX0_copyHair_80 : decode cX0_copyHair 80 = .ok (.i2l, 1) := dk_133 (dk_at dksX0_copyHair_3 8 rfl rfl)
theorem dX0_copyHair_81 : decode cX0_copyHair 81 = .ok (.invokevirtual 118, 3) := dk_182 0 118 (dk_at dksX0_copyHair_3 9 rfl rfl)
theorem dX0_copyHair_84 : decode cX0_copyHair 84 = .ok (.iinc 3 1, 3) := dk_132 3 1 (dk_at dksX0_copyHair_3 12 rfl rfl)
theorem dX0_copyHair_87 : decode cX0_copyHair 87 = .ok (.goto (-32), 3) := dk_167 255 224 (dk_at dksX0_copyHair_3 15 rfl rfl)
theorem dX0_copyHair_90 : decode cX0_copyHair 90 = .ok (.aload_n 0, 1) := dk_42 (dk_at dksX0_copyHair_3 18 rfl rfl)
theorem dX0_copyHair_91 : decode cX0_copyHair 91 = .ok (.aload_n 0, 1) := dk_42 (dk_at dksX0_copyHair_3 19 rfl rfl)
theorem dX0_copyHair_92 : decode cX0_copyHair 92 = .ok (.getfield 38, 3) := dk_180 0 38 (dk_at dksX0_copyHair_3 20 rfl rfl)
theorem dX0_copyHair_95 : decode cX0_copyHair 95 = .ok (.getfield 152, 3) := dk_180 0 152 (dk_at dksX0_copyHair_4 0 rfl rfl)
theorem dX0_copyHair_98 : decode cX0_copyHair 98 = .ok (.invokevirtual 102, 3) := dk_182 0 102 (dk_at dksX0_copyHair_4 3 rfl rfl)
theorem dX0_copyHair_101 : decode cX0_copyHair 101 = .ok (.ireturn, 1) := dk_172 (dk_at dksX0_copyHair_4 6 rfl rfl)
abbrev cX0_day : ByteArray := prog_1_method_39_code
def yX0_day : MethodName := ⟨RX0, "day", "(I)I"⟩
def dkwX0_day_2 : List UInt8 := [180, 0, 38, 27, 182, 1, 61, 182, 0, 102, 172]
abbrev dktX0_day_2 : List UInt8 := dkwX0_day_2 ++ []
def dkwX0_day_1 : List UInt8 := [180, 0, 227, 27, 96, 17, 39, 15, 164, 0, 12, 42, 16, 7, 182, 0, 98, 167, 0, 15, 42, 42]
abbrev dktX0_day_1 : List UInt8 := dkwX0_day_1 ++ dktX0_day_2
def dkwX0_day_0 : List UInt8 := [27, 133, 10, 20, 1, 59, 184, 0, 162, 154, 0, 9, 42, 8, 182, 0, 98, 172, 42, 180, 0, 38]
abbrev dktX0_day_0 : List UInt8 := dkwX0_day_0 ++ dktX0_day_1
theorem dksX0_day_0 : cX0_day.data.toList.drop 0 = dktX0_day_0 := by decide +kernel
theorem dksX0_day_1 : cX0_day.data.toList.drop 22 = dktX0_day_1 := dk_seg dksX0_day_0 22 rfl rfl
theorem dksX0_day_2 : cX0_day.data.toList.drop 44 = dktX0_day_2 := dk_seg dksX0_day_1 22 rfl rfl
theorem dX0_day_0 : decode cX0_day 0 = .ok (.iload_n 1, 1) := dk_27 (dk_at dksX0_day_0 0 rfl rfl)
theorem dX0_day_1 : decode cX0_day 1 = .ok (.i2l, 1) := dk_133 (dk_at dksX0_day_0 1 rfl rfl)
theorem dX0_day_2 : decode cX0_day 2 = .ok (.lconst 1, 1) := dk_10 (dk_at dksX0_day_0 2 rfl rfl)
theorem dX0_day_3 : decode cX0_day 3 = .ok (.ldc2_w 315, 3) := dk_20 1 59 (dk_at dksX0_day_0 3 rfl rfl)
theorem dX0_day_6 : decode cX0_day 6 = .ok (.invokestatic 162, 3) := dk_184 0 162 (dk_at dksX0_day_0 6 rfl rfl)
theorem dX0_day_9 : decode cX0_day 9 = .ok (.ifCond .ne 9, 3) := dk_154 0 9 (dk_at dksX0_day_0 9 rfl rfl)
theorem dX0_day_12 : decode cX0_day 12 = .ok (.aload_n 0, 1) := dk_42 (dk_at dksX0_day_0 12 rfl rfl)
theorem dX0_day_13 : decode cX0_day 13 = .ok (.iconst 5, 1) := dk_8 (dk_at dksX0_day_0 13 rfl rfl)
theorem dX0_day_14 : decode cX0_day 14 = .ok (.invokevirtual 98, 3) := dk_182 0 98 (dk_at dksX0_day_0 14 rfl rfl)
theorem dX0_day_17 : decode cX0_day 17 = .ok (.ireturn, 1) := dk_172 (dk_at dksX0_day_0 17 rfl rfl)
theorem dX0_day_18 : decode cX0_day 18 = .ok (.aload_n 0, 1) := dk_42 (dk_at dksX0_day_0 18 rfl rfl)
theorem dX0_day_19 : decode cX0_day 19 = .ok (.getfield 38, 3) := dk_180 0 38 (dk_at dksX0_day_0 19 rfl rfl)
theorem dX0_day_22 : decode cX0_day 22 = .ok (.getfield 227, 3) := dk_180 0 227 (dk_at dksX0_day_1 0 rfl rfl)
theorem dX0_day_25 : decode cX0_day 25 = .ok (.iload_n 1, 1) := dk_27 (dk_at dksX0_day_1 3 rfl rfl)
theorem dX0_day_26 : decode cX0_day 26 = .ok (.iadd, 1) := dk_96 (dk_at dksX0_day_1 4 rfl rfl)
theorem dX0_day_27 : decode cX0_day 27 = .ok (.sipush 9999, 3) := dk_17 39 15 (dk_at dksX0_day_1 5 rfl rfl)
theorem dX0_day_30 : decode cX0_day 30 = .ok (.if_icmp .le 12, 3) := dk_164 0 12 (dk_at dksX0_day_1 8 rfl rfl)
theorem dX0_day_33 : decode cX0_day 33 = .ok (.aload_n 0, 1) := dk_42 (dk_at dksX0_day_1 11 rfl rfl)
theorem dX0_day_34 : decode cX0_day 34 = .ok (.bipush 7, 2) := dk_16 7 (dk_at dksX0_day_1 12 rfl rfl)
theorem dX0_day_36 : decode cX0_day 36 = .ok (.invokevirtual 98, 3) := dk_182 0 98 (dk_at dksX0_day_1 14 rfl rfl)
theorem dX0_day_39 : decode cX0_day 39 = .ok (.goto 15, 3) := dk_167 0 15 (dk_at dksX0_day_1 17 rfl rfl)
theorem dX0_day_42 : decode cX0_day 42 = .ok (.aload_n 0, 1) := dk_42 (dk_at dksX0_day_1 20 rfl rfl)
theorem dX0_day_43 : decode cX0_day 43 = .ok (.aload_n 0, 1) := dk_42 (dk_at dksX0_day_1 21 rfl rfl)
theorem dX0_day_44 : decode cX0_day 44 = .ok (.getfield 38, 3) := dk_180 0 38 (dk_at dksX0_day_2 0 rfl rfl)
theorem dX0_day_47 : decode cX0_day 47 = .ok (.iload_n 1, 1) := dk_27 (dk_at dksX0_day_2 3 rfl rfl)
theorem dX0_day_48 : decode cX0_day 48 = .ok (.invokevirtual 317, 3) := dk_182 1 61 (dk_at dksX0_day_2 4 rfl rfl)
theorem dX0_day_51 : decode cX0_day 51 = .ok (.invokevirtual 102, 3) := dk_182 0 102 (dk_at dksX0_day_2 7 rfl rfl)
theorem dX0_day_54 : decode cX0_day 54 = .ok (.ireturn, 1) := dk_172 (dk_at dksX0_day_2 10 rfl rfl)
abbrev cX0_say : ByteArray := prog_1_method_40_code
def yX0_say : MethodName := ⟨RX0, "say", "(III)I"⟩
def dkwX0_say_2 : List UInt8 := [180, 0, 211, 27, 50, 182, 1, 20, 182, 0, 102, 167, 0, 9, 42, 16, 9, 182, 0, 98, 172]
abbrev dktX0_say_2 : List UInt8 := dkwX0_say_2 ++ []
def dkwX0_say_1 : List UInt8 := [42, 5, 182, 0, 98, 172, 42, 180, 0, 38, 27, 28, 29, 182, 1, 64, 153, 0, 22, 42, 42, 180, 0, 38]
abbrev dktX0_say_1 : List UInt8 := dkwX0_say_1 ++ dktX0_say_2
def dkwX0_say_0 : List UInt8 := [42, 27, 182, 1, 8, 153, 0, 19, 42, 28, 182, 0, 242, 153, 0, 11, 42, 29, 182, 1, 8, 154, 0, 9]
abbrev dktX0_say_0 : List UInt8 := dkwX0_say_0 ++ dktX0_say_1
theorem dksX0_say_0 : cX0_say.data.toList.drop 0 = dktX0_say_0 := by decide +kernel
theorem dksX0_say_1 : cX0_say.data.toList.drop 24 = dktX0_say_1 := dk_seg dksX0_say_0 24 rfl rfl
theorem dksX0_say_2 : cX0_say.data.toList.drop 48 = dktX0_say_2 := dk_seg dksX0_say_1 24 rfl rfl
theorem dX0_say_0 : decode cX0_say 0 = .ok (.aload_n 0, 1) := dk_42 (dk_at dksX0_say_0 0 rfl rfl)
theorem dX0_say_1 : decode cX0_say 1 = .ok (.iload_n 1, 1) := dk_27 (dk_at dksX0_say_0 1 rfl rfl)
theorem dX0_say_2 : decode cX0_say 2 = .ok (.invokevirtual 264, 3) := dk_182 1 8 (dk_at dksX0_say_0 2 rfl rfl)
theorem dX0_say_5 : decode cX0_say 5 = .ok (.ifCond .eq 19, 3) := dk_153 0 19 (dk_at dksX0_say_0 5 rfl rfl)
theorem dX0_say_8 : decode cX0_say 8 = .ok (.aload_n 0, 1) := dk_42 (dk_at dksX0_say_0 8 rfl rfl)
theorem dX0_say_9 : decode cX0_say 9 = .ok (.iload_n 2, 1) := dk_28 (dk_at dksX0_say_0 9 rfl rfl)
theorem dX0_say_10 : decode cX0_say 10 = .ok (.invokevirtual 242, 3) := dk_182 0 242 (dk_at dksX0_say_0 10 rfl rfl)
theorem dX0_say_13 : decode cX0_say 13 = .ok (.ifCond .eq 11, 3) := dk_153 0 11 (dk_at dksX0_say_0 13 rfl rfl)
theorem dX0_say_16 : decode cX0_say 16 = .ok (.aload_n 0, 1) := dk_42 (dk_at dksX0_say_0 16 rfl rfl)
theorem dX0_say_17 : decode cX0_say 17 = .ok (.iload_n 3, 1) := dk_29 (dk_at dksX0_say_0 17 rfl rfl)
theorem dX0_say_18 : decode cX0_say 18 = .ok (.invokevirtual 264, 3) := dk_182 1 8 (dk_at dksX0_say_0 18 rfl rfl)
theorem dX0_say_21 : decode cX0_say 21 = .ok (.ifCond .ne 9, 3) := dk_154 0 9 (dk_at dksX0_say_0 21 rfl rfl)
theorem dX0_say_24 : decode cX0_say 24 = .ok (.aload_n 0, 1) := dk_42 (dk_at dksX0_say_1 0 rfl rfl)
theorem dX0_say_25 : decode cX0_say 25 = .ok (.iconst 2, 1) := dk_5 (dk_at dksX0_say_1 1 rfl rfl)
theorem dX0_say_26 : decode cX0_say 26 = .ok (.invokevirtual 98, 3) := dk_182 0 98 (dk_at dksX0_say_1 2 rfl rfl)
theorem dX0_say_29 : decode cX0_say 29 = .ok (.ireturn, 1) := dk_172 (dk_at dksX0_say_1 5 rfl rfl)
theorem dX0_say_30 : decode cX0_say 30 = .ok (.aload_n 0, 1) := dk_42 (dk_at dksX0_say_1 6 rfl rfl)
theorem dX0_say_31 : decode cX0_say 31 = .ok (.getfield 38, 3) := dk_180 0 38 (dk_at dksX0_say_1 7 rfl rfl)
theorem dX0_say_34 : decode cX0_say 34 = .ok (.iload_n 1, 1) := dk_27 (dk_at dksX0_say_1 10 rfl rfl)
theorem dX0_say_35 : decode cX0_say 35 = .ok (.iload_n 2, 1) := dk_28 (dk_at dksX0_say_1 11 rfl rfl)
theorem dX0_say_36 : decode cX0_say 36 = .ok (.iload_n 3, 1) := dk_29 (dk_at dksX0_say_1 12 rfl rfl)
theorem dX0_say_37 : decode cX0_say 37 = .ok (.invokevirtual 320, 3) := dk_182 1 64 (dk_at dksX0_say_1 13 rfl rfl)
theorem dX0_say_40 : decode cX0_say 40 = .ok (.ifCond .eq 22, 3) := dk_153 0 22 (dk_at dksX0_say_1 16 rfl rfl)
theorem dX0_say_43 : decode cX0_say 43 = .ok (.aload_n 0, 1) := dk_42 (dk_at dksX0_say_1 19 rfl rfl)
theorem dX0_say_44 : decode cX0_say 44 = .ok (.aload_n 0, 1) := dk_42 (dk_at dksX0_say_1 20 rfl rfl)
theorem dX0_say_45 : decode cX0_say 45 = .ok (.getfield 38, 3) := dk_180 0 38 (dk_at dksX0_say_1 21 rfl rfl)
theorem dX0_say_48 : decode cX0_say 48 = .ok (.getfield 211, 3) := dk_180 0 211 (dk_at dksX0_say_2 0 rfl rfl)
theorem dX0_say_51 : decode cX0_say 51 = .ok (.iload_n 1, 1) := dk_27 (dk_at dksX0_say_2 3 rfl rfl)
theorem dX0_say_52 : decode cX0_say 52 = .ok (.aaload, 1) := dk_50 (dk_at dksX0_say_2 4 rfl rfl)
theorem dX0_say_53 : decode cX0_say 53 = .ok (.invokevirtual 276, 3) := dk_182 1 20 (dk_at dksX0_say_2 5 rfl rfl)
theorem dX0_say_56 : decode cX0_say 56 = .ok (.invokevirtual 102, 3) := dk_182 0 102 (dk_at dksX0_say_2 8 rfl rfl)
theorem dX0_say_59 : decode cX0_say 59 = .ok (.goto 9, 3) := dk_167 0 9 (dk_at dksX0_say_2 11 rfl rfl)
theorem dX0_say_62 : decode cX0_say 62 = .ok (.aload_n 0, 1) := dk_42 (dk_at dksX0_say_2 14 rfl rfl)
theorem dX0_say_63 : decode cX0_say 63 = .ok (.bipush 9, 2) := dk_16 9 (dk_at dksX0_say_2 15 rfl rfl)
theorem dX0_say_65 : decode cX0_say 65 = .ok (.invokevirtual 98, 3) := dk_182 0 98 (dk_at dksX0_say_2 17 rfl rfl)
theorem dX0_say_68 : decode cX0_say 68 = .ok (.ireturn, 1) := dk_172 (dk_at dksX0_say_2 20 rfl rfl)
abbrev cX0_keep : ByteArray := prog_1_method_41_code
def yX0_keep : MethodName := ⟨RX0, "keep", "(II)I"⟩
def dkwX0_keep_2 : List UInt8 := [184, 1, 70, 182, 0, 102, 167, 0, 9, 42, 16, 9, 182, 0, 98, 172]
abbrev dktX0_keep_2 : List UInt8 := dkwX0_keep_2 ++ []
def dkwX0_keep_1 : List UInt8 := [180, 0, 38, 180, 0, 211, 27, 50, 78, 45, 28, 182, 1, 68, 153, 0, 17, 42, 45, 180, 1, 17]
abbrev dktX0_keep_1 : List UInt8 := dkwX0_keep_1 ++ dktX0_keep_2
def dkwX0_keep_0 : List UInt8 := [42, 27, 182, 1, 8, 153, 0, 11, 42, 28, 182, 0, 242, 154, 0, 9, 42, 5, 182, 0, 98, 172, 42]
abbrev dktX0_keep_0 : List UInt8 := dkwX0_keep_0 ++ dktX0_keep_1
theorem dksX0_keep_0 : cX0_keep.data.toList.drop 0 = dktX0_keep_0 := by decide +kernel
theorem dksX0_keep_1 : cX0_keep.data.toList.drop 23 = dktX0_keep_1 := dk_seg dksX0_keep_0 23 rfl rfl
theorem dksX0_keep_2 : cX0_keep.data.toList.drop 45 = dktX0_keep_2 := dk_seg dksX0_keep_1 22 rfl rfl
theorem dX0_keep_0 : decode cX0_keep 0 = .ok (.aload_n 0, 1) := dk_42 (dk_at dksX0_keep_0 0 rfl rfl)
theorem dX0_keep_1 : decode cX0_keep 1 = .ok (.iload_n 1, 1) := dk_27 (dk_at dksX0_keep_0 1 rfl rfl)
theorem dX0_keep_2 : decode cX0_keep 2 = .ok (.invokevirtual 264, 3) := dk_182 1 8 (dk_at dksX0_keep_0 2 rfl rfl)
theorem dX0_keep_5 : decode cX0_keep 5 = .ok (.ifCond .eq 11, 3) := dk_153 0 11 (dk_at dksX0_keep_0 5 rfl rfl)
theorem dX0_keep_8 : decode cX0_keep 8 = .ok (.aload_n 0, 1) := dk_42 (dk_at dksX0_keep_0 8 rfl rfl)
theorem dX0_keep_9 : decode cX0_keep 9 = .ok (.iload_n 2, 1) := dk_28 (dk_at dksX0_keep_0 9 rfl rfl)
theorem dX0_keep_10 : decode cX0_keep 10 = .ok (.invokevirtual 242, 3) := dk_182 0 242 (dk_at dksX0_keep_0 10 rfl rfl)
theorem dX0_keep_13 : decode cX0_keep 13 = .ok (.ifCond .ne 9, 3) := dk_154 0 9 (dk_at dksX0_keep_0 13 rfl rfl)
theorem dX0_keep_16 : decode cX0_keep 16 = .ok (.aload_n 0, 1) := dk_42 (dk_at dksX0_keep_0 16 rfl rfl)
theorem dX0_keep_17 : decode cX0_keep 17 = .ok (.iconst 2, 1) := dk_5 (dk_at dksX0_keep_0 17 rfl rfl)
theorem dX0_keep_18 : decode cX0_keep 18 = .ok (.invokevirtual 98, 3) := dk_182 0 98 (dk_at dksX0_keep_0 18 rfl rfl)
theorem dX0_keep_21 : decode cX0_keep 21 = .ok (.ireturn, 1) := dk_172 (dk_at dksX0_keep_0 21 rfl rfl)
theorem dX0_keep_22 : decode cX0_keep 22 = .ok (.aload_n 0, 1) := dk_42 (dk_at dksX0_keep_0 22 rfl rfl)
theorem dX0_keep_23 : decode cX0_keep 23 = .ok (.getfield 38, 3) := dk_180 0 38 (dk_at dksX0_keep_1 0 rfl rfl)
theorem dX0_keep_26 : decode cX0_keep 26 = .ok (.getfield 211, 3) := dk_180 0 211 (dk_at dksX0_keep_1 3 rfl rfl)
theorem dX0_keep_29 : decode cX0_keep 29 = .ok (.iload_n 1, 1) := dk_27 (dk_at dksX0_keep_1 6 rfl rfl)
theorem dX0_keep_30 : decode cX0_keep 30 = .ok (.aaload, 1) := dk_50 (dk_at dksX0_keep_1 7 rfl rfl)
theorem dX0_keep_31 : decode cX0_keep 31 = .ok (.astore_n 3, 1) := dk_78 (dk_at dksX0_keep_1 8 rfl rfl)
theorem dX0_keep_32 : decode cX0_keep 32 = .ok (.aload_n 3, 1) := dk_45 (dk_at dksX0_keep_1 9 rfl rfl)
theorem dX0_keep_33 : decode cX0_keep 33 = .ok (.iload_n 2, 1) := dk_28 (dk_at dksX0_keep_1 10 rfl rfl)
theorem dX0_keep_34 : decode cX0_keep 34 = .ok (.invokevirtual 324, 3) := dk_182 1 68 (dk_at dksX0_keep_1 11 rfl rfl)
theorem dX0_keep_37 : decode cX0_keep 37 = .ok (.ifCond .eq 17, 3) := dk_153 0 17 (dk_at dksX0_keep_1 14 rfl rfl)
theorem dX0_keep_40 : decode cX0_keep 40 = .ok (.aload_n 0, 1) := dk_42 (dk_at dksX0_keep_1 17 rfl rfl)
theorem dX0_keep_41 : decode cX0_keep 41 = .ok (.aload_n 3, 1) := dk_45 (dk_at dksX0_keep_1 18 rfl rfl)
theorem dX0_keep_42 : decode cX0_keep 42 = .ok (.getfield 273, 3) := dk_180 1 17 (dk_at dksX0_keep_1 19 rfl rfl)
theorem dX0_keep_45 : decode cX0_keep 45 = .ok (.invokestatic 326, 3) := dk_184 1 70 (dk_at dksX0_keep_2 0 rfl rfl)
theorem dX0_keep_48 : decode cX0_keep 48 = .ok (.invokevirtual 102, 3) := dk_182 0 102 (dk_at dksX0_keep_2 3 rfl rfl)
theorem dX0_keep_51 : decode cX0_keep 51 = .ok (.goto 9, 3) := dk_167 0 9 (dk_at dksX0_keep_2 6 rfl rfl)
theorem dX0_keep_54 : decode cX0_keep 54 = .ok (.aload_n 0, 1) := dk_42 (dk_at dksX0_keep_2 9 rfl rfl)
theorem dX0_keep_55 : decode cX0_keep 55 = .ok (.bipush 9, 2) := dk_16 9 (dk_at dksX0_keep_2 10 rfl rfl)
theorem dX0_keep_57 : decode cX0_keep 57 = .ok (.invokevirtual 98, 3) := dk_182 0 98 (dk_at dksX0_keep_2 12 rfl rfl)
theorem dX0_keep_60 : decode cX0_keep 60 = .ok (.ireturn, 1) := dk_172 (dk_at dksX0_keep_2 15 rfl rfl)
abbrev cX0_bits : ByteArray := prog_1_method_1_code
def yX0_bits : MethodName := ⟨RX0, "bits", "(I)I"⟩
def dkwX0_bits_0 : List UInt8 := [3, 60, 26, 61, 28, 153, 0, 15, 132, 1, 1, 28, 28, 4, 100, 126, 61, 167, 255, 243, 27, 172]
abbrev dktX0_bits_0 : List UInt8 := dkwX0_bits_0 ++ []
theorem dksX0_bits_0 : cX0_bits.data.toList.drop 0 = dktX0_bits_0 := by decide +kernel
theorem dX0_bits_0 : decode cX0_bits 0 = .ok (.iconst 0, 1) := dk_3 (dk_at dksX0_bits_0 0 rfl rfl)
theorem dX0_bits_1 : decode cX0_bits 1 = .ok (.istore_n 1, 1) := dk_60 (dk_at dksX0_bits_0 1 rfl rfl)
theorem dX0_bits_2 : decode cX0_bits 2 = .ok (.iload_n 0, 1) := dk_26 (dk_at dksX0_bits_0 2 rfl rfl)
theorem dX0_bits_3 : decode cX0_bits 3 = .ok (.istore_n 2, 1) := dk_61 (dk_at dksX0_bits_0 3 rfl rfl)
theorem dX0_bits_4 : decode cX0_bits 4 = .ok (.iload_n 2, 1) := dk_28 (dk_at dksX0_bits_0 4 rfl rfl)
theorem dX0_bits_5 : decode cX0_bits 5 = .ok (.ifCond .eq 15, 3) := dk_153 0 15 (dk_at dksX0_bits_0 5 rfl rfl)
theorem dX0_bits_8 : decode cX0_bits 8 = .ok (.iinc 1 1, 3) := dk_132 1 1 (dk_at dksX0_bits_0 8 rfl rfl)
theorem dX0_bits_11 : decode cX0_bits 11 = .ok (.iload_n 2, 1) := dk_28 (dk_at dksX0_bits_0 11 rfl rfl)
theorem dX0_bits_12 : decode cX0_bits 12 = .ok (.iload_n 2, 1) := dk_28 (dk_at dksX0_bits_0 12 rfl rfl)
theorem dX0_bits_13 : decode cX0_bits 13 = .ok (.iconst 1, 1) := dk_4 (dk_at dksX0_bits_0 13 rfl rfl)
theorem dX0_bits_14 : decode cX0_bits 14 = .ok (.isub, 1) := dk_100 (dk_at dksX0_bits_0 14 rfl rfl)
theorem dX0_bits_15 : decode cX0_bits 15 = .ok (.iand, 1) := dk_126 (dk_at dksX0_bits_0 15 rfl rfl)
theorem dX0_bits_16 : decode cX0_bits 16 = .ok (.istore_n 2, 1) := dk_61 (dk_at dksX0_bits_0 16 rfl rfl)
theorem dX0_bits_17 : decode cX0_bits 17 = .ok (.goto (-13), 3) := dk_167 255 243 (dk_at dksX0_bits_0 17 rfl rfl)
theorem dX0_bits_20 : decode cX0_bits 20 = .ok (.iload_n 1, 1) := dk_27 (dk_at dksX0_bits_0 20 rfl rfl)
theorem dX0_bits_21 : decode cX0_bits 21 = .ok (.ireturn, 1) := dk_172 (dk_at dksX0_bits_0 21 rfl rfl)
abbrev cX0_learn : ByteArray := prog_1_method_42_code
def yX0_learn : MethodName := ⟨RX0, "learn", "(II)I"⟩
def dkwX0_learn_3 : List UInt8 := [182, 1, 1, 184, 1, 70, 182, 0, 102, 172]
abbrev dktX0_learn_3 : List UInt8 := dkwX0_learn_3 ++ []
def dkwX0_learn_2 : List UInt8 := [182, 0, 98, 172, 45, 89, 180, 1, 14, 4, 28, 120, 128, 181, 1, 14, 42, 42, 180, 0, 38, 28, 3]
abbrev dktX0_learn_2 : List UInt8 := dkwX0_learn_2 ++ dktX0_learn_3
def dkwX0_learn_1 : List UInt8 := [180, 0, 38, 180, 0, 211, 27, 50, 78, 45, 180, 1, 14, 28, 184, 1, 23, 153, 0, 10, 42, 16, 9]
abbrev dktX0_learn_1 : List UInt8 := dkwX0_learn_1 ++ dktX0_learn_2
def dkwX0_learn_0 : List UInt8 := [42, 27, 182, 1, 8, 153, 0, 11, 42, 28, 182, 0, 242, 154, 0, 9, 42, 5, 182, 0, 98, 172, 42]
abbrev dktX0_learn_0 : List UInt8 := dkwX0_learn_0 ++ dktX0_learn_1
theorem dksX0_learn_0 : cX0_learn.data.toList.drop 0 = dktX0_learn_0 := by decide +kernel
theorem dksX0_learn_1 : cX0_learn.data.toList.drop 23 = dktX0_learn_1 := dk_seg dksX0_learn_0 23 rfl rfl
theorem dksX0_learn_2 : cX0_learn.data.toList.drop 46 = dktX0_learn_2 := dk_seg dksX0_learn_1 23 rfl rfl
theorem dksX0_learn_3 : cX0_learn.data.toList.drop 69 = dktX0_learn_3 := dk_seg dksX0_learn_2 23 rfl rfl
theorem dX0_learn_0 : decode cX0_learn 0 = .ok (.aload_n 0, 1) := dk_42 (dk_at dksX0_learn_0 0 rfl rfl)
theorem dX0_learn_1 : decode cX0_learn 1 = .ok (.iload_n 1, 1) := dk_27 (dk_at dksX0_learn_0 1 rfl rfl)
theorem dX0_learn_2 : decode cX0_learn 2 = .ok (.invokevirtual 264, 3) := dk_182 1 8 (dk_at dksX0_learn_0 2 rfl rfl)
theorem dX0_learn_5 : decode cX0_learn 5 = .ok (.ifCond .eq 11, 3) := dk_153 0 11 (dk_at dksX0_learn_0 5 rfl rfl)
theorem dX0_learn_8 : decode cX0_learn 8 = .ok (.aload_n 0, 1) := dk_42 (dk_at dksX0_learn_0 8 rfl rfl)
theorem dX0_learn_9 : decode cX0_learn 9 = .ok (.iload_n 2, 1) := dk_28 (dk_at dksX0_learn_0 9 rfl rfl)
theorem dX0_learn_10 : decode cX0_learn 10 = .ok (.invokevirtual 242, 3) := dk_182 0 242 (dk_at dksX0_learn_0 10 rfl rfl)
theorem dX0_learn_13 : decode cX0_learn 13 = .ok (.ifCond .ne 9, 3) := dk_154 0 9 (dk_at dksX0_learn_0 13 rfl rfl)
theorem dX0_learn_16 : decode cX0_learn 16 = .ok (.aload_n 0, 1) := dk_42 (dk_at dksX0_learn_0 16 rfl rfl)
theorem dX0_learn_17 : decode cX0_learn 17 = .ok (.iconst 2, 1) := dk_5 (dk_at dksX0_learn_0 17 rfl rfl)
theorem dX0_learn_18 : decode cX0_learn 18 = .ok (.invokevirtual 98, 3) := dk_182 0 98 (dk_at dksX0_learn_0 18 rfl rfl)
theorem dX0_learn_21 : decode cX0_learn 21 = .ok (.ireturn, 1) := dk_172 (dk_at dksX0_learn_0 21 rfl rfl)
theorem dX0_learn_22 : decode cX0_learn 22 = .ok (.aload_n 0, 1) := dk_42 (dk_at dksX0_learn_0 22 rfl rfl)
theorem dX0_learn_23 : decode cX0_learn 23 = .ok (.getfield 38, 3) := dk_180 0 38 (dk_at dksX0_learn_1 0 rfl rfl)
theorem dX0_learn_26 : decode cX0_learn 26 = .ok (.getfield 211, 3) := dk_180 0 211 (dk_at dksX0_learn_1 3 rfl rfl)
theorem dX0_learn_29 : decode cX0_learn 29 = .ok (.iload_n 1, 1) := dk_27 (dk_at dksX0_learn_1 6 rfl rfl)
theorem dX0_learn_30 : decode cX0_learn 30 = .ok (.aaload, 1) := dk_50 (dk_at dksX0_learn_1 7 rfl rfl)
theorem dX0_learn_31 : decode cX0_learn 31 = .ok (.astore_n 3, 1) := dk_78 (dk_at dksX0_learn_1 8 rfl rfl)
theorem dX0_learn_32 : decode cX0_learn 32 = .ok (.aload_n 3, 1) := dk_45 (dk_at dksX0_learn_1 9 rfl rfl)
theorem dX0_learn_33 : decode cX0_learn 33 = .ok (.getfield 270, 3) := dk_180 1 14 (dk_at dksX0_learn_1 10 rfl rfl)
theorem dX0_learn_36 : decode cX0_learn 36 = .ok (.iload_n 2, 1) := dk_28 (dk_at dksX0_learn_1 13 rfl rfl)
theorem dX0_learn_37 : decode cX0_learn 37 = .ok (.invokestatic 279, 3) := dk_184 1 23 (dk_at dksX0_learn_1 14 rfl rfl)
theorem dX0_learn_40 : decode cX0_learn 40 = .ok (.ifCond .eq 10, 3) := dk_153 0 10 (dk_at dksX0_learn_1 17 rfl rfl)
theorem dX0_learn_43 : decode cX0_learn 43 = .ok (.aload_n 0, 1) := dk_42 (dk_at dksX0_learn_1 20 rfl rfl)
theorem dX0_learn_44 : decode cX0_learn 44 = .ok (.bipush 9, 2) := dk_16 9 (dk_at dksX0_learn_1 21 rfl rfl)
theorem dX0_learn_46 : decode cX0_learn 46 = .ok (.invokevirtual 98, 3) := dk_182 0 98 (dk_at dksX0_learn_2 0 rfl rfl)
theorem dX0_learn_49 : decode cX0_learn 49 = .ok (.ireturn, 1) := dk_172 (dk_at dksX0_learn_2 3 rfl rfl)
theorem dX0_learn_50 : decode cX0_learn 50 = .ok (.aload_n 3, 1) := dk_45 (dk_at dksX0_learn_2 4 rfl rfl)
theorem dX0_learn_51 : decode cX0_learn 51 = .ok (.dup, 1) := dk_89 (dk_at dksX0_learn_2 5 rfl rfl)
theorem dX0_learn_52 : decode cX0_learn 52 = .ok (.getfield 270, 3) := dk_180 1 14 (dk_at dksX0_learn_2 6 rfl rfl)
theorem dX0_learn_55 : decode cX0_learn 55 = .ok (.iconst 1, 1) := dk_4 (dk_at dksX0_learn_2 9 rfl rfl)
theorem dX0_learn_56 : decode cX0_learn 56 = .ok (.iload_n 2, 1) := dk_28 (dk_at dksX0_learn_2 10 rfl rfl)
theorem dX0_learn_57 : decode cX0_learn 57 = .ok (.ishl, 1) := dk_120 (dk_at dksX0_learn_2 11 rfl rfl)
theorem dX0_learn_58 : decode cX0_learn 58 = .ok (.ior, 1) := dk_128 (dk_at dksX0_learn_2 12 rfl rfl)
theorem dX0_learn_59 : decode cX0_learn 59 = .ok (.putfield 270, 3) := dk_181 1 14 (dk_at dksX0_learn_2 13 rfl rfl)
theorem dX0_learn_62 : decode cX0_learn 62 = .ok (.aload_n 0, 1) := dk_42 (dk_at dksX0_learn_2 16 rfl rfl)
theorem dX0_learn_63 : decode cX0_learn 63 = .ok (.aload_n 0, 1) := dk_42 (dk_at dksX0_learn_2 17 rfl rfl)
theorem dX0_learn_64 : decode cX0_learn 64 = .ok (.getfield 38, 3) := dk_180 0 38 (dk_at dksX0_learn_2 18 rfl rfl)
theorem dX0_learn_67 : decode cX0_learn 67 = .ok (.iload_n 2, 1) := dk_28 (dk_at dksX0_learn_2 21 rfl rfl)
theorem dX0_learn_68 : decode cX0_learn 68 = .ok (.iconst 0, 1) := dk_3 (dk_at dksX0_learn_2 22 rfl rfl)
theorem dX0_learn_69 : decode cX0_learn 69 = .ok (.invokevirtual 257, 3) := dk_182 1 1 (dk_at dksX0_learn_3 0 rfl rfl)
theorem dX0_learn_72 : decode cX0_learn 72 = .ok (.invokestatic 326, 3) := dk_184 1 70 (dk_at dksX0_learn_3 3 rfl rfl)
theorem dX0_learn_75 : decode cX0_learn 75 = .ok (.invokevirtual 102, 3) := dk_182 0 102 (dk_at dksX0_learn_3 6 rfl rfl)
theorem dX0_learn_78 : decode cX0_learn 78 = .ok (.ireturn, 1) := dk_172 (dk_at dksX0_learn_3 9 rfl rfl)
abbrev cX0_cut : ByteArray := prog_1_method_43_code
def yX0_cut : MethodName := ⟨RX0, "cut", "(II)I"⟩
def dkwX0_cut_2 : List UInt8 := [29, 182, 0, 102, 172]
abbrev dktX0_cut_2 : List UInt8 := dkwX0_cut_2 ++ []
def dkwX0_cut_1 : List UInt8 := [180, 0, 38, 27, 28, 182, 1, 73, 62, 29, 2, 160, 0, 12, 42, 16, 9, 182, 0, 98, 167, 0, 8, 42]
abbrev dktX0_cut_1 : List UInt8 := dkwX0_cut_1 ++ dktX0_cut_2
def dkwX0_cut_0 : List UInt8 := [42, 27, 182, 1, 8, 153, 0, 11, 42, 28, 182, 1, 8, 154, 0, 9, 42, 5, 182, 0, 98, 172, 42]
abbrev dktX0_cut_0 : List UInt8 := dkwX0_cut_0 ++ dktX0_cut_1
theorem dksX0_cut_0 : cX0_cut.data.toList.drop 0 = dktX0_cut_0 := by decide +kernel
theorem dksX0_cut_1 : cX0_cut.data.toList.drop 23 = dktX0_cut_1 := dk_seg dksX0_cut_0 23 rfl rfl
theorem dksX0_cut_2 : cX0_cut.data.toList.drop 47 = dktX0_cut_2 := dk_seg dksX0_cut_1 24 rfl rfl
theorem dX0_cut_0 : decode cX0_cut 0 = .ok (.aload_n 0, 1) := dk_42 (dk_at dksX0_cut_0 0 rfl rfl)
theorem dX0_cut_1 : decode cX0_cut 1 = .ok (.iload_n 1, 1) := dk_27 (dk_at dksX0_cut_0 1 rfl rfl)
theorem dX0_cut_2 : decode cX0_cut 2 = .ok (.invokevirtual 264, 3) := dk_182 1 8 (dk_at dksX0_cut_0 2 rfl rfl)
theorem dX0_cut_5 : decode cX0_cut 5 = .ok (.ifCond .eq 11, 3) := dk_153 0 11 (dk_at dksX0_cut_0 5 rfl rfl)
theorem dX0_cut_8 : decode cX0_cut 8 = .ok (.aload_n 0, 1) := dk_42 (dk_at dksX0_cut_0 8 rfl rfl)
theorem dX0_cut_9 : decode cX0_cut 9 = .ok (.iload_n 2, 1) := dk_28 (dk_at dksX0_cut_0 9 rfl rfl)
theorem dX0_cut_10 : decode cX0_cut 10 = .ok (.invokevirtual 264, 3) := dk_182 1 8 (dk_at dksX0_cut_0 10 rfl rfl)
theorem dX0_cut_13 : decode cX0_cut 13 = .ok (.ifCond .ne 9, 3) := dk_154 0 9 (dk_at dksX0_cut_0 13 rfl rfl)
theorem dX0_cut_16 : decode cX0_cut 16 = .ok (.aload_n 0, 1) := dk_42 (dk_at dksX0_cut_0 16 rfl rfl)
theorem dX0_cut_17 : decode cX0_cut 17 = .ok (.iconst 2, 1) := dk_5 (dk_at dksX0_cut_0 17 rfl rfl)
theorem dX0_cut_18 : decode cX0_cut 18 = .ok (.invokevirtual 98, 3) := dk_182 0 98 (dk_at dksX0_cut_0 18 rfl rfl)
theorem dX0_cut_21 : decode cX0_cut 21 = .ok (.ireturn, 1) := dk_172 (dk_at dksX0_cut_0 21 rfl rfl)
theorem dX0_cut_22 : decode cX0_cut 22 = .ok (.aload_n 0, 1) := dk_42 (dk_at dksX0_cut_0 22 rfl rfl)
theorem dX0_cut_23 : decode cX0_cut 23 = .ok (.getfield 38, 3) := dk_180 0 38 (dk_at dksX0_cut_1 0 rfl rfl)
theorem dX0_cut_26 : decode cX0_cut 26 = .ok (.iload_n 1, 1) := dk_27 (dk_at dksX0_cut_1 3 rfl rfl)
theorem dX0_cut_27 : decode cX0_cut 27 = .ok (.iload_n 2, 1) := dk_28 (dk_at dksX0_cut_1 4 rfl rfl)
theorem dX0_cut_28 : decode cX0_cut 28 = .ok (.invokevirtual 329, 3) := dk_182 1 73 (dk_at dksX0_cut_1 5 rfl rfl)
theorem dX0_cut_31 : decode cX0_cut 31 = .ok (.istore_n 3, 1) := dk_62 (dk_at dksX0_cut_1 8 rfl rfl)
theorem dX0_cut_32 : decode cX0_cut 32 = .ok (.iload_n 3, 1) := dk_29 (dk_at dksX0_cut_1 9 rfl rfl)
theorem dX0_cut_33 : decode cX0_cut 33 = .ok (.iconst (-1), 1) := dk_2 (dk_at dksX0_cut_1 10 rfl rfl)
theorem dX0_cut_34 : decode cX0_cut 34 = .ok (.if_icmp .ne 12, 3) := dk_160 0 12 (dk_at dksX0_cut_1 11 rfl rfl)
theorem dX0_cut_37 : decode cX0_cut 37 = .ok (.aload_n 0, 1) := dk_42 (dk_at dksX0_cut_1 14 rfl rfl)
theorem dX0_cut_38 : decode cX0_cut 38 = .ok (.bipush 9, 2) := dk_16 9 (dk_at dksX0_cut_1 15 rfl rfl)
theorem dX0_cut_40 : decode cX0_cut 40 = .ok (.invokevirtual 98, 3) := dk_182 0 98 (dk_at dksX0_cut_1 17 rfl rfl)
theorem dX0_cut_43 : decode cX0_cut 43 = .ok (.goto 8, 3) := dk_167 0 8 (dk_at dksX0_cut_1 20 rfl rfl)
theorem dX0_cut_46 : decode cX0_cut 46 = .ok (.aload_n 0, 1) := dk_42 (dk_at dksX0_cut_1 23 rfl rfl)
theorem dX0_cut_47 : decode cX0_cut 47 = .ok (.iload_n 3, 1) := dk_29 (dk_at dksX0_cut_2 0 rfl rfl)
theorem dX0_cut_48 : decode cX0_cut 48 = .ok (.invokevirtual 102, 3) := dk_182 0 102 (dk_at dksX0_cut_2 1 rfl rfl)
theorem dX0_cut_51 : decode cX0_cut 51 = .ok (.ireturn, 1) := dk_172 (dk_at dksX0_cut_2 4 rfl rfl)
abbrev cX0_train : ByteArray := prog_1_method_44_code
def yX0_train : MethodName := ⟨RX0, "train", "(II)Z"⟩
def dkwX0_train_2 : List UInt8 := [182, 0, 105, 172]
abbrev dktX0_train_2 : List UInt8 := dkwX0_train_2 ++ []
def dkwX0_train_1 : List UInt8 := [154, 0, 9, 42, 8, 182, 0, 105, 172, 42, 180, 0, 38, 180, 0, 211, 27, 50, 28, 181, 1, 11, 42, 3]
abbrev dktX0_train_1 : List UInt8 := dkwX0_train_1 ++ dktX0_train_2
def dkwX0_train_0 : List UInt8 := [42, 27, 182, 1, 8, 154, 0, 9, 42, 5, 182, 0, 105, 172, 28, 133, 9, 20, 1, 75, 184, 0, 162]
abbrev dktX0_train_0 : List UInt8 := dkwX0_train_0 ++ dktX0_train_1
theorem dksX0_train_0 : cX0_train.data.toList.drop 0 = dktX0_train_0 := by decide +kernel
theorem dksX0_train_1 : cX0_train.data.toList.drop 23 = dktX0_train_1 := dk_seg dksX0_train_0 23 rfl rfl
theorem dksX0_train_2 : cX0_train.data.toList.drop 47 = dktX0_train_2 := dk_seg dksX0_train_1 24 rfl rfl
theorem dX0_train_0 : decode cX0_train 0 = .ok (.aload_n 0, 1) := dk_42 (dk_at dksX0_train_0 0 rfl rfl)
theorem dX0_train_1 : decode cX0_train 1 = .ok (.iload_n 1, 1) := dk_27 (dk_at dksX0_train_0 1 rfl rfl)
theorem dX0_train_2 : decode cX0_train 2 = .ok (.invokevirtual 264, 3) := dk_182 1 8 (dk_at dksX0_train_0 2 rfl rfl)
theorem dX0_train_5 : decode cX0_train 5 = .ok (.ifCond .ne 9, 3) := dk_154 0 9 (dk_at dksX0_train_0 5 rfl rfl)
theorem dX0_train_8 : decode cX0_train 8 = .ok (.aload_n 0, 1) := dk_42 (dk_at dksX0_train_0 8 rfl rfl)
theorem dX0_train_9 : decode cX0_train 9 = .ok (.iconst 2, 1) := dk_5 (dk_at dksX0_train_0 9 rfl rfl)
theorem dX0_train_10 : decode cX0_train 10 = .ok (.invokevirtual 105, 3) := dk_182 0 105 (dk_at dksX0_train_0 10 rfl rfl)
theorem dX0_train_13 : decode cX0_train 13 = .ok (.ireturn, 1) := dk_172 (dk_at dksX0_train_0 13 rfl rfl)
theorem dX0_train_14 : decode cX0_train 14 = .ok (.iload_n 2, 1) := dk_28 (dk_at dksX0_train_0 14 rfl rfl)
theorem dX0_train_15 : decode cX0_train 15 = .ok (.i2l, 1) := dk_133 (dk_at dksX0_train_0 15 rfl rfl)
theorem dX0_train_16 : decode cX0_train 16 = .ok (.lconst 0, 1) := dk_9 (dk_at dksX0_train_0 16 rfl rfl)
theorem dX0_train_17 : decode cX0_train 17 = .ok (.ldc2_w 331, 3) := dk_20 1 75 (dk_at dksX0_train_0 17 rfl rfl)
theorem dX0_train_20 : decode cX0_train 20 = .ok (.invokestatic 162, 3) := dk_184 0 162 (dk_at dksX0_train_0 20 rfl rfl)
theorem dX0_train_23 : decode cX0_train 23 = .ok (.ifCond .ne 9, 3) := dk_154 0 9 (dk_at dksX0_train_1 0 rfl rfl)
theorem dX0_train_26 : decode cX0_train 26 = .ok (.aload_n 0, 1) := dk_42 (dk_at dksX0_train_1 3 rfl rfl)
theorem dX0_train_27 : decode cX0_train 27 = .ok (.iconst 5, 1) := dk_8 (dk_at dksX0_train_1 4 rfl rfl)
theorem dX0_train_28 : decode cX0_train 28 = .ok (.invokevirtual 105, 3) := dk_182 0 105 (dk_at dksX0_train_1 5 rfl rfl)
theorem dX0_train_31 : decode cX0_train 31 = .ok (.ireturn, 1) := dk_172 (dk_at dksX0_train_1 8 rfl rfl)
theorem dX0_train_32 : decode cX0_train 32 = .ok (.aload_n 0, 1) := dk_42 (dk_at dksX0_train_1 9 rfl rfl)
theorem dX0_train_33 : decode cX0_train 33 = .ok (.getfield 38, 3) := dk_180 0 38 (dk_at dksX0_train_1 10 rfl rfl)
theorem dX0_train_36 : decode cX0_train 36 = .ok (.getfield 211, 3) := dk_180 0 211 (dk_at dksX0_train_1 13 rfl rfl)
theorem dX0_train_39 : decode cX0_train 39 = .ok (.iload_n 1, 1) := dk_27 (dk_at dksX0_train_1 16 rfl rfl)
theorem dX0_train_40 : decode cX0_train 40 = .ok (.aaload, 1) := dk_50 (dk_at dksX0_train_1 17 rfl rfl)
theorem dX0_train_41 : decode cX0_train 41 = .ok (.iload_n 2, 1) := dk_28 (dk_at dksX0_train_1 18 rfl rfl)
theorem dX0_train_42 : decode cX0_train 42 = .ok (.putfield 267, 3) := dk_181 1 11 (dk_at dksX0_train_1 19 rfl rfl)
theorem dX0_train_45 : decode cX0_train 45 = .ok (.aload_n 0, 1) := dk_42 (dk_at dksX0_train_1 22 rfl rfl)
theorem dX0_train_46 : decode cX0_train 46 = .ok (.iconst 0, 1) := dk_3 (dk_at dksX0_train_1 23 rfl rfl)
theorem dX0_train_47 : decode cX0_train 47 = .ok (.invokevirtual 105, 3) := dk_182 0 105 (dk_at dksX0_train_2 0 rfl rfl)
theorem dX0_train_50 : decode cX0_train 50 = .ok (.ireturn, 1) := dk_172 (dk_at dksX0_train_2 3 rfl rfl)
abbrev cX0_trade : ByteArray := prog_1_method_45_code
def yX0_trade : MethodName := ⟨RX0, "trade", "(IZ)Z"⟩
def dkwX0_trade_2 : List UInt8 := [182, 0, 105, 172]
abbrev dktX0_trade_2 : List UInt8 := dkwX0_trade_2 ++ []
def dkwX0_trade_1 : List UInt8 := [45, 180, 0, 214, 28, 160, 0, 10, 42, 16, 9, 182, 0, 105, 172, 45, 28, 181, 0, 214, 42, 3]
abbrev dktX0_trade_1 : List UInt8 := dkwX0_trade_1 ++ dktX0_trade_2
def dkwX0_trade_0 : List UInt8 := [42, 27, 182, 1, 8, 154, 0, 9, 42, 5, 182, 0, 105, 172, 42, 180, 0, 38, 180, 0, 211, 27, 50, 78]
abbrev dktX0_trade_0 : List UInt8 := dkwX0_trade_0 ++ dktX0_trade_1
theorem dksX0_trade_0 : cX0_trade.data.toList.drop 0 = dktX0_trade_0 := by decide +kernel
theorem dksX0_trade_1 : cX0_trade.data.toList.drop 24 = dktX0_trade_1 := dk_seg dksX0_trade_0 24 rfl rfl
theorem dksX0_trade_2 : cX0_trade.data.toList.drop 46 = dktX0_trade_2 := dk_seg dksX0_trade_1 22 rfl rfl
theorem dX0_trade_0 : decode cX0_trade 0 = .ok (.aload_n 0, 1) := dk_42 (dk_at dksX0_trade_0 0 rfl rfl)
theorem dX0_trade_1 : decode cX0_trade 1 = .ok (.iload_n 1, 1) := dk_27 (dk_at dksX0_trade_0 1 rfl rfl)
theorem dX0_trade_2 : decode cX0_trade 2 = .ok (.invokevirtual 264, 3) := dk_182 1 8 (dk_at dksX0_trade_0 2 rfl rfl)
theorem dX0_trade_5 : decode cX0_trade 5 = .ok (.ifCond .ne 9, 3) := dk_154 0 9 (dk_at dksX0_trade_0 5 rfl rfl)
theorem dX0_trade_8 : decode cX0_trade 8 = .ok (.aload_n 0, 1) := dk_42 (dk_at dksX0_trade_0 8 rfl rfl)
theorem dX0_trade_9 : decode cX0_trade 9 = .ok (.iconst 2, 1) := dk_5 (dk_at dksX0_trade_0 9 rfl rfl)
theorem dX0_trade_10 : decode cX0_trade 10 = .ok (.invokevirtual 105, 3) := dk_182 0 105 (dk_at dksX0_trade_0 10 rfl rfl)
theorem dX0_trade_13 : decode cX0_trade 13 = .ok (.ireturn, 1) := dk_172 (dk_at dksX0_trade_0 13 rfl rfl)
theorem dX0_trade_14 : decode cX0_trade 14 = .ok (.aload_n 0, 1) := dk_42 (dk_at dksX0_trade_0 14 rfl rfl)
theorem dX0_trade_15 : decode cX0_trade 15 = .ok (.getfield 38, 3) := dk_180 0 38 (dk_at dksX0_trade_0 15 rfl rfl)
theorem dX0_trade_18 : decode cX0_trade 18 = .ok (.getfield 211, 3) := dk_180 0 211 (dk_at dksX0_trade_0 18 rfl rfl)
theorem dX0_trade_21 : decode cX0_trade 21 = .ok (.iload_n 1, 1) := dk_27 (dk_at dksX0_trade_0 21 rfl rfl)
theorem dX0_trade_22 : decode cX0_trade 22 = .ok (.aaload, 1) := dk_50 (dk_at dksX0_trade_0 22 rfl rfl)
theorem dX0_trade_23 : decode cX0_trade 23 = .ok (.astore_n 3, 1) := dk_78 (dk_at dksX0_trade_0 23 rfl rfl)
theorem dX0_trade_24 : decode cX0_trade 24 = .ok (.aload_n 3, 1) := dk_45 (dk_at dksX0_trade_1 0 rfl rfl)
theorem dX0_trade_25 : decode cX0_trade 25 = .ok (.getfield 214, 3) := dk_180 0 214 (dk_at dksX0_trade_1 1 rfl rfl)
theorem dX0_trade_28 : decode cX0_trade 28 = .ok (.iload_n 2, 1) := dk_28 (dk_at dksX0_trade_1 4 rfl rfl)
theorem dX0_trade_29 : decode cX0_trade 29 = .ok (.if_icmp .ne 10, 3) := dk_160 0 10 (dk_at dksX0_trade_1 5 rfl rfl)
theorem dX0_trade_32 : decode cX0_trade 32 = .ok (.aload_n 0, 1) := dk_42 (dk_at dksX0_trade_1 8 rfl rfl)
theorem dX0_trade_33 : decode cX0_trade 33 = .ok (.bipush 9, 2) := dk_16 9 (dk_at dksX0_trade_1 9 rfl rfl)
theorem dX0_trade_35 : decode cX0_trade 35 = .ok (.invokevirtual 105, 3) := dk_182 0 105 (dk_at dksX0_trade_1 11 rfl rfl)
theorem dX0_trade_38 : decode cX0_trade 38 = .ok (.ireturn, 1) := dk_172 (dk_at dksX0_trade_1 14 rfl rfl)
theorem dX0_trade_39 : decode cX0_trade 39 = .ok (.aload_n 3, 1) := dk_45 (dk_at dksX0_trade_1 15 rfl rfl)
theorem dX0_trade_40 : decode cX0_trade 40 = .ok (.iload_n 2, 1) := dk_28 (dk_at dksX0_trade_1 16 rfl rfl)
theorem dX0_trade_41 : decode cX0_trade 41 = .ok (.putfield 214, 3) := dk_181 0 214 (dk_at dksX0_trade_1 17 rfl rfl)
theorem dX0_trade_44 : decode cX0_trade 44 = .ok (.aload_n 0, 1) := dk_42 (dk_at dksX0_trade_1 20 rfl rfl)
theorem dX0_trade_45 : decode cX0_trade 45 = .ok (.iconst 0, 1) := dk_3 (dk_at dksX0_trade_1 21 rfl rfl)
theorem dX0_trade_46 : decode cX0_trade 46 = .ok (.invokevirtual 105, 3) := dk_182 0 105 (dk_at dksX0_trade_2 0 rfl rfl)
theorem dX0_trade_49 : decode cX0_trade 49 = .ok (.ireturn, 1) := dk_172 (dk_at dksX0_trade_2 3 rfl rfl)
abbrev cX0_rule : ByteArray := prog_1_method_46_code
def yX0_rule : MethodName := ⟨RX0, "rule", "(II)Z"⟩
def dkwX0_rule_2 : List UInt8 := [180, 0, 38, 28, 181, 0, 224, 167, 0, 9, 42, 8, 182, 0, 105, 172, 42, 3, 182, 0, 105, 172]
abbrev dktX0_rule_2 : List UInt8 := dkwX0_rule_2 ++ []
def dkwX0_rule_1 : List UInt8 := [181, 0, 221, 167, 0, 37, 27, 8, 160, 0, 26, 28, 133, 9, 20, 1, 77, 184, 0, 162, 153, 0, 14, 42]
abbrev dktX0_rule_1 : List UInt8 := dkwX0_rule_1 ++ dktX0_rule_2
def dkwX0_rule_0 : List UInt8 := [27, 7, 160, 0, 26, 28, 133, 9, 20, 1, 59, 184, 0, 162, 153, 0, 14, 42, 180, 0, 38, 28]
abbrev dktX0_rule_0 : List UInt8 := dkwX0_rule_0 ++ dktX0_rule_1
theorem dksX0_rule_0 : cX0_rule.data.toList.drop 0 = dktX0_rule_0 := by decide +kernel
theorem dksX0_rule_1 : cX0_rule.data.toList.drop 22 = dktX0_rule_1 := dk_seg dksX0_rule_0 22 rfl rfl
theorem dksX0_rule_2 : cX0_rule.data.toList.drop 46 = dktX0_rule_2 := dk_seg dksX0_rule_1 24 rfl rfl
theorem dX0_rule_0 : decode cX0_rule 0 = .ok (.iload_n 1, 1) := dk_27 (dk_at dksX0_rule_0 0 rfl rfl)
theorem dX0_rule_1 : decode cX0_rule 1 = .ok (.iconst 4, 1) := dk_7 (dk_at dksX0_rule_0 1 rfl rfl)
theorem dX0_rule_2 : decode cX0_rule 2 = .ok (.if_icmp .ne 26, 3) := dk_160 0 26 (dk_at dksX0_rule_0 2 rfl rfl)
theorem dX0_rule_5 : decode cX0_rule 5 = .ok (.iload_n 2, 1) := dk_28 (dk_at dksX0_rule_0 5 rfl rfl)
theorem dX0_rule_6 : decode cX0_rule 6 = .ok (.i2l, 1) := dk_133 (dk_at dksX0_rule_0 6 rfl rfl)
theorem dX0_rule_7 : decode cX0_rule 7 = .ok (.lconst 0, 1) := dk_9 (dk_at dksX0_rule_0 7 rfl rfl)
theorem dX0_rule_8 : decode cX0_rule 8 = .ok (.ldc2_w 315, 3) := dk_20 1 59 (dk_at dksX0_rule_0 8 rfl rfl)
theorem dX0_rule_11 : decode cX0_rule 11 = .ok (.invokestatic 162, 3) := dk_184 0 162 (dk_at dksX0_rule_0 11 rfl rfl)
theorem dX0_rule_14 : decode cX0_rule 14 = .ok (.ifCond .eq 14, 3) := dk_153 0 14 (dk_at dksX0_rule_0 14 rfl rfl)
theorem dX0_rule_17 : decode cX0_rule 17 = .ok (.aload_n 0, 1) := dk_42 (dk_at dksX0_rule_0 17 rfl rfl)
theorem dX0_rule_18 : decode cX0_rule 18 = .ok (.getfield 38, 3) := dk_180 0 38 (dk_at dksX0_rule_0 18 rfl rfl)
theorem dX0_rule_21 : decode cX0_rule 21 = .ok (.iload_n 2, 1) := dk_28 (dk_at dksX0_rule_0 21 rfl rfl)
theorem dX0_rule_22 : decode cX0_rule 22 = .ok (.putfield 221, 3) := dk_181 0 221 (dk_at dksX0_rule_1 0 rfl rfl)
theorem dX0_rule_25 : decode cX0_rule 25 = .ok (.goto 37, 3) := dk_167 0 37 (dk_at dksX0_rule_1 3 rfl rfl)
theorem dX0_rule_28 : decode cX0_rule 28 = .ok (.iload_n 1, 1) := dk_27 (dk_at dksX0_rule_1 6 rfl rfl)
theorem dX0_rule_29 : decode cX0_rule 29 = .ok (.iconst 5, 1) := dk_8 (dk_at dksX0_rule_1 7 rfl rfl)
theorem dX0_rule_30 : decode cX0_rule 30 = .ok (.if_icmp .ne 26, 3) := dk_160 0 26 (dk_at dksX0_rule_1 8 rfl rfl)
theorem dX0_rule_33 : decode cX0_rule 33 = .ok (.iload_n 2, 1) := dk_28 (dk_at dksX0_rule_1 11 rfl rfl)
theorem dX0_rule_34 : decode cX0_rule 34 = .ok (.i2l, 1) := dk_133 (dk_at dksX0_rule_1 12 rfl rfl)
theorem dX0_rule_35 : decode cX0_rule 35 = .ok (.lconst 0, 1) := dk_9 (dk_at dksX0_rule_1 13 rfl rfl)
theorem dX0_rule_36 : decode cX0_rule 36 = .ok (.ldc2_w 333, 3) := dk_20 1 77 (dk_at dksX0_rule_1 14 rfl rfl)
theorem dX0_rule_39 : decode cX0_rule 39 = .ok (.invokestatic 162, 3) := dk_184 0 162 (dk_at dksX0_rule_1 17 rfl rfl)
theorem dX0_rule_42 : decode cX0_rule 42 = .ok (.ifCond .eq 14, 3) := dk_153 0 14 (dk_at dksX0_rule_1 20 rfl rfl)
theorem dX0_rule_45 : decode cX0_rule 45 = .ok (.aload_n 0, 1) := dk_42 (dk_at dksX0_rule_1 23 rfl rfl)
theorem dX0_rule_46 : decode cX0_rule 46 = .ok (.getfield 38, 3) := dk_180 0 38 (dk_at dksX0_rule_2 0 rfl rfl)
theorem dX0_rule_49 : decode cX0_rule 49 = .ok (.iload_n 2, 1) := dk_28 (dk_at dksX0_rule_2 3 rfl rfl)
theorem dX0_rule_50 : decode cX0_rule 50 = .ok (.putfield 224, 3) := dk_181 0 224 (dk_at dksX0_rule_2 4 rfl rfl)
theorem dX0_rule_53 : decode cX0_rule 53 = .ok (.goto 9, 3) := dk_167 0 9 (dk_at dksX0_rule_2 7 rfl rfl)
theorem dX0_rule_56 : decode cX0_rule 56 = .ok (.aload_n 0, 1) := dk_42 (dk_at dksX0_rule_2 10 rfl rfl)
theorem dX0_rule_57 : decode cX0_rule 57 = .ok (.iconst 5, 1) := dk_8 (dk_at dksX0_rule_2 11 rfl rfl)
theorem dX0_rule_58 : decode cX0_rule 58 = .ok (.invokevirtual 105, 3) := dk_182 0 105 (dk_at dksX0_rule_2 12 rfl rfl)
theorem dX0_rule_61 : decode cX0_rule 61 = .ok (.ireturn, 1) := dk_172 (dk_at dksX0_rule_2 15 rfl rfl)
theorem dX0_rule_62 : decode cX0_rule 62 = .ok (.aload_n 0, 1) := dk_42 (dk_at dksX0_rule_2 16 rfl rfl)
theorem dX0_rule_63 : decode cX0_rule 63 = .ok (.iconst 0, 1) := dk_3 (dk_at dksX0_rule_2 17 rfl rfl)
theorem dX0_rule_64 : decode cX0_rule 64 = .ok (.invokevirtual 105, 3) := dk_182 0 105 (dk_at dksX0_rule_2 18 rfl rfl)
theorem dX0_rule_67 : decode cX0_rule 67 = .ok (.ireturn, 1) := dk_172 (dk_at dksX0_rule_2 21 rfl rfl)
abbrev cX0_invite : ByteArray := prog_1_method_47_code
def yX0_invite : MethodName := ⟨RX0, "invite", "(III)I"⟩
def dkwX0_invite_5 : List UInt8 := [182, 0, 102, 172]
abbrev dktX0_invite_5 : List UInt8 := dkwX0_invite_5 ++ []
def dkwX0_invite_4 : List UInt8 := [180, 0, 38, 89, 180, 0, 155, 4, 96, 181, 0, 155, 42, 42, 180, 0, 38, 180, 0, 155, 4, 100]
abbrev dktX0_invite_4 : List UInt8 := dkwX0_invite_4 ++ dktX0_invite_5
def dkwX0_invite_3 : List UInt8 := [180, 1, 35, 42, 180, 0, 38, 180, 0, 155, 187, 1, 40, 89, 27, 28, 29, 183, 1, 81, 83, 42]
abbrev dktX0_invite_3 : List UInt8 := dkwX0_invite_3 ++ dktX0_invite_4
def dkwX0_invite_2 : List UInt8 := [180, 0, 38, 180, 0, 155, 16, 6, 160, 0, 10, 42, 16, 7, 182, 0, 98, 172, 42, 180, 0, 38]
abbrev dktX0_invite_2 : List UInt8 := dkwX0_invite_2 ++ dktX0_invite_3
def dkwX0_invite_1 : List UInt8 := [159, 0, 15, 29, 133, 10, 20, 1, 79, 184, 0, 162, 154, 0, 9, 42, 8, 182, 0, 98, 172, 42]
abbrev dktX0_invite_1 : List UInt8 := dkwX0_invite_1 ++ dktX0_invite_2
def dkwX0_invite_0 : List UInt8 := [42, 27, 182, 1, 8, 153, 0, 11, 42, 28, 182, 1, 8, 154, 0, 9, 42, 5, 182, 0, 98, 172, 27, 28]
abbrev dktX0_invite_0 : List UInt8 := dkwX0_invite_0 ++ dktX0_invite_1
theorem dksX0_invite_0 : cX0_invite.data.toList.drop 0 = dktX0_invite_0 := by decide +kernel
theorem dksX0_invite_1 : cX0_invite.data.toList.drop 24 = dktX0_invite_1 := dk_seg dksX0_invite_0 24 rfl rfl
theorem dksX0_invite_2 : cX0_invite.data.toList.drop 46 = dktX0_invite_2 := dk_seg dksX0_invite_1 22 rfl rfl
theorem dksX0_invite_3 : cX0_invite.data.toList.drop 68 = dktX0_invite_3 := dk_seg dksX0_invite_2 22 rfl rfl
theorem dksX0_invite_4 : cX0_invite.data.toList.drop 90 = dktX0_invite_4 := dk_seg dksX0_invite_3 22 rfl rfl
theorem dksX0_invite_5 : cX0_invite.data.toList.drop 112 = dktX0_invite_5 := dk_seg dksX0_invite_4 22 rfl rfl
theorem dX0_invite_0 : decode cX0_invite 0 = .ok (.aload_n 0, 1) := dk_42 (dk_at dksX0_invite_0 0 rfl rfl)
theorem dX0_invite_1 : decode cX0_invite 1 = .ok (.iload_n 1, 1) := dk_27 (dk_at dksX0_invite_0 1 rfl rfl)
theorem dX0_invite_2 : decode cX0_invite 2 = .ok (.invokevirtual 264, 3) := dk_182 1 8 (dk_at dksX0_invite_0 2 rfl rfl)
theorem dX0_invite_5 : decode cX0_invite 5 = .ok (.ifCond .eq 11, 3) := dk_153 0 11 (dk_at dksX0_invite_0 5 rfl rfl)
theorem dX0_invite_8 : decode cX0_invite 8 = .ok (.aload_n 0, 1) := dk_42 (dk_at dksX0_invite_0 8 rfl rfl)
theorem dX0_invite_9 : decode cX0_invite 9 = .ok (.iload_n 2, 1) := dk_28 (dk_at dksX0_invite_0 9 rfl rfl)
theorem dX0_invite_10 : decode cX0_invite 10 = .ok (.invokevirtual 264, 3) := dk_182 1 8 (dk_at dksX0_invite_0 10 rfl rfl)
theorem dX0_invite_13 : decode cX0_invite 13 = .ok (.ifCond .ne 9, 3) := dk_154 0 9 (dk_at dksX0_invite_0 13 rfl rfl)
theorem dX0_invite_16 : decode cX0_invite 16 = .ok (.aload_n 0, 1) := dk_42 (dk_at dksX0_invite_0 16 rfl rfl)
theorem dX0_invite_17 : decode cX0_invite 17 = .ok (.iconst 2, 1) := dk_5 (dk_at dksX0_invite_0 17 rfl rfl)
theorem dX0_invite_18 : decode cX0_invite 18 = .ok (.invokevirtual 98, 3) := dk_182 0 98 (dk_at dksX0_invite_0 18 rfl rfl)
theorem dX0_invite_21 : decode cX0_invite 21 = .ok (.ireturn, 1) := dk_172 (dk_at dksX0_invite_0 21 rfl rfl)
theorem dX0_invite_22 : decode cX0_invite 22 = .ok (.iload_n 1, 1) := dk_27 (dk_at dksX0_invite_0 22 rfl rfl)
theorem dX0_invite_23 : decode cX0_invite 23 = .ok (.iload_n 2, 1) := dk_28 (dk_at dksX0_invite_0 23 rfl rfl)
theorem dX0_invite_24 : decode cX0_invite 24 = .ok (.if_icmp .eq 15, 3) := dk_159 0 15 (dk_at dksX0_invite_1 0 rfl rfl)
theorem dX0_invite_27 : decode cX0_invite 27 = .ok (.iload_n 3, 1) := dk_29 (dk_at dksX0_invite_1 3 rfl rfl)
theorem dX0_invite_28 : decode cX0_invite 28 = .ok (.i2l, 1) := dk_133 (dk_at dksX0_invite_1 4 rfl rfl)
theorem dX0_invite_29 : decode cX0_invite 29 = .ok (.lconst 1, 1) := dk_10 (dk_at dksX0_invite_1 5 rfl rfl)
theorem dX0_invite_30 : decode cX0_invite 30 = .ok (.ldc2_w 335, 3) := dk_20 1 79 (dk_at dksX0_invite_1 6 rfl rfl)
theorem dX0_invite_33 : decode cX0_invite 33 = .ok (.invokestatic 162, 3) := dk_184 0 162 (dk_at dksX0_invite_1 9 rfl rfl)
theorem dX0_invite_36 : decode cX0_invite 36 = .ok (.ifCond .ne 9, 3) := dk_154 0 9 (dk_at dksX0_invite_1 12 rfl rfl)
theorem dX0_invite_39 : decode cX0_invite 39 = .ok (.aload_n 0, 1) := dk_42 (dk_at dksX0_invite_1 15 rfl rfl)
theorem dX0_invite_40 : decode cX0_invite 40 = .ok (.iconst 5, 1) := dk_8 (dk_at dksX0_invite_1 16 rfl rfl)
theorem dX0_invite_41 : decode cX0_invite 41 = .ok (.invokevirtual 98, 3) := dk_182 0 98 (dk_at dksX0_invite_1 17 rfl rfl)
theorem dX0_invite_44 : decode cX0_invite 44 = .ok (.ireturn, 1) := dk_172 (dk_at dksX0_invite_1 20 rfl rfl)
theorem dX0_invite_45 : decode cX0_invite 45 = .ok (.aload_n 0, 1) := dk_42 (dk_at dksX0_invite_1 21 rfl rfl)
theorem dX0_invite_46 : decode cX0_invite 46 = .ok (.getfield 38, 3) := dk_180 0 38 (dk_at dksX0_invite_2 0 rfl rfl)
theorem dX0_invite_49 : decode cX0_invite 49 = .ok (.getfield 155, 3) := dk_180 0 155 (dk_at dksX0_invite_2 3 rfl rfl)
theorem dX0_invite_52 : decode cX0_invite 52 = .ok (.bipush 6, 2) := dk_16 6 (dk_at dksX0_invite_2 6 rfl rfl)
theorem dX0_invite_54 : decode cX0_invite 54 = .ok (.if_icmp .ne 10, 3) := dk_160 0 10 (dk_at dksX0_invite_2 8 rfl rfl)
theorem dX0_invite_57 : decode cX0_invite 57 = .ok (.aload_n 0, 1) := dk_42 (dk_at dksX0_invite_2 11 rfl rfl)
theorem dX0_invite_58 : decode cX0_invite 58 = .ok (.bipush 7, 2) := dk_16 7 (dk_at dksX0_invite_2 12 rfl rfl)
theorem dX0_invite_60 : decode cX0_invite 60 = .ok (.invokevirtual 98, 3) := dk_182 0 98 (dk_at dksX0_invite_2 14 rfl rfl)
theorem dX0_invite_63 : decode cX0_invite 63 = .ok (.ireturn, 1) := dk_172 (dk_at dksX0_invite_2 17 rfl rfl)
theorem dX0_invite_64 : decode cX0_invite 64 = .ok (.aload_n 0, 1) := dk_42 (dk_at dksX0_invite_2 18 rfl rfl)
theorem dX0_invite_65 : decode cX0_invite 65 = .ok (.getfield 38, 3) := dk_180 0 38 (dk_at dksX0_invite_2 19 rfl rfl)
theorem dX0_invite_68 : decode cX0_invite 68 = .ok (.getfield 291, 3) := dk_180 1 35 (dk_at dksX0_invite_3 0 rfl rfl)
theorem dX0_invite_71 : decode cX0_invite 71 = .ok (.aload_n 0, 1) := dk_42 (dk_at dksX0_invite_3 3 rfl rfl)
theorem dX0_invite_72 : decode cX0_invite 72 = .ok (.getfield 38, 3) := dk_180 0 38 (dk_at dksX0_invite_3 4 rfl rfl)
theorem dX0_invite_75 : decode cX0_invite 75 = .ok (.getfield 155, 3) := dk_180 0 155 (dk_at dksX0_invite_3 7 rfl rfl)
theorem dX0_invite_78 : decode cX0_invite 78 = .ok (.new 296, 3) := dk_187 1 40 (dk_at dksX0_invite_3 10 rfl rfl)
theorem dX0_invite_81 : decode cX0_invite 81 = .ok (.dup, 1) := dk_89 (dk_at dksX0_invite_3 13 rfl rfl)
theorem dX0_invite_82 : decode cX0_invite 82 = .ok (.iload_n 1, 1) := dk_27 (dk_at dksX0_invite_3 14 rfl rfl)
theorem dX0_invite_83 : decode cX0_invite 83 = .ok (.iload_n 2, 1) := dk_28 (dk_at dksX0_invite_3 15 rfl rfl)
theorem dX0_invite_84 : decode cX0_invite 84 = .ok (.iload_n 3, 1) := dk_29 (dk_at dksX0_invite_3 16 rfl rfl)
theorem dX0_invite_85 : decode cX0_invite 85 = .ok (.invokespecial 337, 3) := dk_183 1 81 (dk_at dksX0_invite_3 17 rfl rfl)
theorem dX0_invite_88 : decode cX0_invite 88 = .ok (.aastore, 1) := dk_83 (dk_at dksX0_invite_3 20 rfl rfl)
theorem dX0_invite_89 : decode cX0_invite 89 = .ok (.aload_n 0, 1) := dk_42 (dk_at dksX0_invite_3 21 rfl rfl)
theorem dX0_invite_90 : decode cX0_invite 90 = .ok (.getfield 38, 3) := dk_180 0 38 (dk_at dksX0_invite_4 0 rfl rfl)
theorem dX0_invite_93 : decode cX0_invite 93 = .ok (.dup, 1) := dk_89 (dk_at dksX0_invite_4 3 rfl rfl)
theorem dX0_invite_94 : decode cX0_invite 94 = .ok (.getfield 155, 3) := dk_180 0 155 (dk_at dksX0_invite_4 4 rfl rfl)
theorem dX0_invite_97 : decode cX0_invite 97 = .ok (.iconst 1, 1) := dk_4 (dk_at dksX0_invite_4 7 rfl rfl)
theorem dX0_invite_98 : decode cX0_invite 98 = .ok (.iadd, 1) := dk_96 (dk_at dksX0_invite_4 8 rfl rfl)
theorem dX0_invite_99 : decode cX0_invite 99 = .ok (.putfield 155, 3) := dk_181 0 155 (dk_at dksX0_invite_4 9 rfl rfl)
theorem dX0_invite_102 : decode cX0_invite 102 = .ok (.aload_n 0, 1) := dk_42 (dk_at dksX0_invite_4 12 rfl rfl)
theorem dX0_invite_103 : decode cX0_invite 103 = .ok (.aload_n 0, 1) := dk_42 (dk_at dksX0_invite_4 13 rfl rfl)
theorem dX0_invite_104 : decode cX0_invite 104 = .ok (.getfield 38, 3) := dk_180 0 38 (dk_at dksX0_invite_4 14 rfl rfl)
theorem dX0_invite_107 : decode cX0_invite 107 = .ok (.getfield 155, 3) := dk_180 0 155 (dk_at dksX0_invite_4 17 rfl rfl)
theorem dX0_invite_110 : decode cX0_invite 110 = .ok (.iconst 1, 1) := dk_4 (dk_at dksX0_invite_4 20 rfl rfl)
theorem dX0_invite_111 : decode cX0_invite 111 = .ok (.isub, 1) := dk_100 (dk_at dksX0_invite_4 21 rfl rfl)
theorem dX0_invite_112 : decode cX0_invite 112 = .ok (.invokevirtual 102, 3) := dk_182 0 102 (dk_at dksX0_invite_5 0 rfl rfl)
theorem dX0_invite_115 : decode cX0_invite 115 = .ok (.ireturn, 1) := dk_172 (dk_at dksX0_invite_5 3 rfl rfl)
abbrev cX0_cancel : ByteArray := prog_1_method_48_code
def yX0_cancel : MethodName := ⟨RX0, "cancel", "()I"⟩
def dkwX0_cancel_1 : List UInt8 := [180, 0, 155, 4, 100, 181, 0, 155, 42, 42, 180, 0, 38, 180, 0, 155, 182, 0, 102, 172]
abbrev dktX0_cancel_1 : List UInt8 := dkwX0_cancel_1 ++ []
def dkwX0_cancel_0 : List UInt8 := [42, 180, 0, 38, 180, 0, 155, 154, 0, 10, 42, 16, 8, 182, 0, 98, 172, 42, 180, 0, 38, 89]
abbrev dktX0_cancel_0 : List UInt8 := dkwX0_cancel_0 ++ dktX0_cancel_1
theorem dksX0_cancel_0 : cX0_cancel.data.toList.drop 0 = dktX0_cancel_0 := by decide +kernel
theorem dksX0_cancel_1 : cX0_cancel.data.toList.drop 22 = dktX0_cancel_1 := dk_seg dksX0_cancel_0 22 rfl rfl
theorem dX0_cancel_0 : decode cX0_cancel 0 = .ok (.aload_n 0, 1) := dk_42 (dk_at dksX0_cancel_0 0 rfl rfl)
theorem dX0_cancel_1 : decode cX0_cancel 1 = .ok (.getfield 38, 3) := dk_180 0 38 (dk_at dksX0_cancel_0 1 rfl rfl)
theorem dX0_cancel_4 : decode cX0_cancel 4 = .ok (.getfield 155, 3) := dk_180 0 155 (dk_at dksX0_cancel_0 4 rfl rfl)
theorem dX0_cancel_7 : decode cX0_cancel 7 = .ok (.ifCond .ne 10, 3) := dk_154 0 10 (dk_at dksX0_cancel_0 7 rfl rfl)
theorem dX0_cancel_10 : decode cX0_cancel 10 = .ok (.aload_n 0, 1) := dk_42 (dk_at dksX0_cancel_0 10 rfl rfl)
theorem dX0_cancel_11 : decode cX0_cancel 11 = .ok (.bipush 8, 2) := dk_16 8 (dk_at dksX0_cancel_0 11 rfl rfl)
theorem dX0_cancel_13 : decode cX0_cancel 13 = .ok (.invokevirtual 98, 3) := dk_182 0 98 (dk_at dksX0_cancel_0 13 rfl rfl)
theorem dX0_cancel_16 : decode cX0_cancel 16 = .ok (.ireturn, 1) := dk_172 (dk_at dksX0_cancel_0 16 rfl rfl)
theorem dX0_cancel_17 : decode cX0_cancel 17 = .ok (.aload_n 0, 1) := dk_42 (dk_at dksX0_cancel_0 17 rfl rfl)
theorem dX0_cancel_18 : decode cX0_cancel 18 = .ok (.getfield 38, 3) := dk_180 0 38 (dk_at dksX0_cancel_0 18 rfl rfl)
theorem dX0_cancel_21 : decode cX0_cancel 21 = .ok (.dup, 1) := dk_89 (dk_at dksX0_cancel_0 21 rfl rfl)
theorem dX0_cancel_22 : decode cX0_cancel 22 = .ok (.getfield 155, 3) := dk_180 0 155 (dk_at dksX0_cancel_1 0 rfl rfl)
theorem dX0_cancel_25 : decode cX0_cancel 25 = .ok (.iconst 1, 1) := dk_4 (dk_at dksX0_cancel_1 3 rfl rfl)
theorem dX0_cancel_26 : decode cX0_cancel 26 = .ok (.isub, 1) := dk_100 (dk_at dksX0_cancel_1 4 rfl rfl)
theorem dX0_cancel_27 : decode cX0_cancel 27 = .ok (.putfield 155, 3) := dk_181 0 155 (dk_at dksX0_cancel_1 5 rfl rfl)
theorem dX0_cancel_30 : decode cX0_cancel 30 = .ok (.aload_n 0, 1) := dk_42 (dk_at dksX0_cancel_1 8 rfl rfl)
theorem dX0_cancel_31 : decode cX0_cancel 31 = .ok (.aload_n 0, 1) := dk_42 (dk_at dksX0_cancel_1 9 rfl rfl)
theorem dX0_cancel_32 : decode cX0_cancel 32 = .ok (.getfield 38, 3) := dk_180 0 38 (dk_at dksX0_cancel_1 10 rfl rfl)
theorem dX0_cancel_35 : decode cX0_cancel 35 = .ok (.getfield 155, 3) := dk_180 0 155 (dk_at dksX0_cancel_1 13 rfl rfl)
theorem dX0_cancel_38 : decode cX0_cancel 38 = .ok (.invokevirtual 102, 3) := dk_182 0 102 (dk_at dksX0_cancel_1 16 rfl rfl)
theorem dX0_cancel_41 : decode cX0_cancel 41 = .ok (.ireturn, 1) := dk_172 (dk_at dksX0_cancel_1 19 rfl rfl)
abbrev cX0_hairIn : ByteArray := prog_1_method_50_code
def yX0_hairIn : MethodName := ⟨RX0, "hairIn", "(II)I"⟩
def dkwX0_hairIn_2 : List UInt8 := [172]
abbrev dktX0_hairIn_2 : List UInt8 := dkwX0_hairIn_2 ++ []
def dkwX0_hairIn_1 : List UInt8 := [42, 28, 182, 1, 90, 180, 0, 211, 27, 50, 182, 1, 20, 182, 0, 102, 167, 0, 8, 42, 8, 182, 0, 98]
abbrev dktX0_hairIn_1 : List UInt8 := dkwX0_hairIn_1 ++ dktX0_hairIn_2
def dkwX0_hairIn_0 : List UInt8 := [42, 27, 182, 1, 8, 154, 0, 11, 42, 5, 182, 0, 98, 167, 0, 35, 28, 184, 1, 87, 153, 0, 23, 42]
abbrev dktX0_hairIn_0 : List UInt8 := dkwX0_hairIn_0 ++ dktX0_hairIn_1
theorem dksX0_hairIn_0 : cX0_hairIn.data.toList.drop 0 = dktX0_hairIn_0 := by decide +kernel
theorem dksX0_hairIn_1 : cX0_hairIn.data.toList.drop 24 = dktX0_hairIn_1 := dk_seg dksX0_hairIn_0 24 rfl rfl
theorem dksX0_hairIn_2 : cX0_hairIn.data.toList.drop 48 = dktX0_hairIn_2 := dk_seg dksX0_hairIn_1 24 rfl rfl
theorem dX0_hairIn_0 : decode cX0_hairIn 0 = .ok (.aload_n 0, 1) := dk_42 (dk_at dksX0_hairIn_0 0 rfl rfl)
theorem dX0_hairIn_1 : decode cX0_hairIn 1 = .ok (.iload_n 1, 1) := dk_27 (dk_at dksX0_hairIn_0 1 rfl rfl)
theorem dX0_hairIn_2 : decode cX0_hairIn 2 = .ok (.invokevirtual 264, 3) := dk_182 1 8 (dk_at dksX0_hairIn_0 2 rfl rfl)
theorem dX0_hairIn_5 : decode cX0_hairIn 5 = .ok (.ifCond .ne 11, 3) := dk_154 0 11 (dk_at dksX0_hairIn_0 5 rfl rfl)
theorem dX0_hairIn_8 : decode cX0_hairIn 8 = .ok (.aload_n 0, 1) := dk_42 (dk_at dksX0_hairIn_0 8 rfl rfl)
theorem dX0_hairIn_9 : decode cX0_hairIn 9 = .ok (.iconst 2, 1) := dk_5 (dk_at dksX0_hairIn_0 9 rfl rfl)
theorem dX0_hairIn_10 : decode cX0_hairIn 10 = .ok (.invokevirtual 98, 3) := dk_182 0 98 (dk_at dksX0_hairIn_0 10 rfl rfl)
theorem dX0_hairIn_13 : decode cX0_hairIn 13 = .ok (.goto 35, 3) := dk_167 0 35 (dk_at dksX0_hairIn_0 13 rfl rfl)
theorem dX0_hairIn_16 : decode cX0_hairIn 16 = .ok (.iload_n 2, 1) := dk_28 (dk_at dksX0_hairIn_0 16 rfl rfl)
theorem dX0_hairIn_17 : decode cX0_hairIn 17 = .ok (.invokestatic 343, 3) := dk_184 1 87 (dk_at dksX0_hairIn_0 17 rfl rfl)
theorem dX0_hairIn_20 : decode cX0_hairIn 20 = .ok (.ifCond .eq 23, 3) := dk_153 0 23 (dk_at dksX0_hairIn_0 20 rfl rfl)
theorem dX0_hairIn_23 : decode cX0_hairIn 23 = .ok (.aload_n 0, 1) := dk_42 (dk_at dksX0_hairIn_0 23 rfl rfl)
theorem dX0_hairIn_24 : decode cX0_hairIn 24 = .ok (.aload_n 0, 1) := dk_42 (dk_at dksX0_hairIn_1 0 rfl rfl)
theorem dX0_hairIn_25 : decode cX0_hairIn 25 = .ok (.iload_n 2, 1) := dk_28 (dk_at dksX0_hairIn_1 1 rfl rfl)
theorem dX0_hairIn_26 : decode cX0_hairIn 26 = .ok (.invokevirtual 346, 3) := dk_182 1 90 (dk_at dksX0_hairIn_1 2 rfl rfl)
theorem dX0_hairIn_29 : decode cX0_hairIn 29 = .ok (.getfield 211, 3) := dk_180 0 211 (dk_at dksX0_hairIn_1 5 rfl rfl)
theorem dX0_hairIn_32 : decode cX0_hairIn 32 = .ok (.iload_n 1, 1) := dk_27 (dk_at dksX0_hairIn_1 8 rfl rfl)
theorem dX0_hairIn_33 : decode cX0_hairIn 33 = .ok (.aaload, 1) := dk_50 (dk_at dksX0_hairIn_1 9 rfl rfl)
theorem dX0_hairIn_34 : decode cX0_hairIn 34 = .ok (.invokevirtual 276, 3) := dk_182 1 20 (dk_at dksX0_hairIn_1 10 rfl rfl)
theorem dX0_hairIn_37 : decode cX0_hairIn 37 = .ok (.invokevirtual 102, 3) := dk_182 0 102 (dk_at dksX0_hairIn_1 13 rfl rfl)
theorem dX0_hairIn_40 : decode cX0_hairIn 40 = .ok (.goto 8, 3) := dk_167 0 8 (dk_at dksX0_hairIn_1 16 rfl rfl)
theorem dX0_hairIn_43 : decode cX0_hairIn 43 = .ok (.aload_n 0, 1) := dk_42 (dk_at dksX0_hairIn_1 19 rfl rfl)
theorem dX0_hairIn_44 : decode cX0_hairIn 44 = .ok (.iconst 5, 1) := dk_8 (dk_at dksX0_hairIn_1 20 rfl rfl)
theorem dX0_hairIn_45 : decode cX0_hairIn 45 = .ok (.invokevirtual 98, 3) := dk_182 0 98 (dk_at dksX0_hairIn_1 21 rfl rfl)
theorem dX0_hairIn_48 : decode cX0_hairIn 48 = .ok (.ireturn, 1) := dk_172 (dk_at dksX0_hairIn_2 0 rfl rfl)
abbrev cX0_isSpan : ByteArray := prog_1_method_23_code
def yX0_isSpan : MethodName := ⟨RX0, "isSpan", "(I)Z"⟩
def dkwX0_isSpan_0 : List UInt8 := [26, 133, 9, 20, 0, 166, 184, 0, 162, 172]
abbrev dktX0_isSpan_0 : List UInt8 := dkwX0_isSpan_0 ++ []
theorem dksX0_isSpan_0 : cX0_isSpan.data.toList.drop 0 = dktX0_isSpan_0 := by decide +kernel
theorem dX0_isSpan_0 : decode cX0_isSpan 0 = .ok (.iload_n 0, 1) := dk_26 (dk_at dksX0_isSpan_0 0 rfl rfl)
theorem dX0_isSpan_1 : decode cX0_isSpan 1 = .ok (.i2l, 1) := dk_133 (dk_at dksX0_isSpan_0 1 rfl rfl)
theorem dX0_isSpan_2 : decode cX0_isSpan 2 = .ok (.lconst 0, 1) := dk_9 (dk_at dksX0_isSpan_0 2 rfl rfl)
theorem dX0_isSpan_3 : decode cX0_isSpan 3 = .ok (.ldc2_w 166, 3) := dk_20 0 166 (dk_at dksX0_isSpan_0 3 rfl rfl)
theorem dX0_isSpan_6 : decode cX0_isSpan 6 = .ok (.invokestatic 162, 3) := dk_184 0 162 (dk_at dksX0_isSpan_0 6 rfl rfl)
theorem dX0_isSpan_9 : decode cX0_isSpan 9 = .ok (.ireturn, 1) := dk_172 (dk_at dksX0_isSpan_0 9 rfl rfl)
abbrev cX0_in : ByteArray := prog_1_method_49_code
def yX0_in : MethodName := ⟨RX0, "in", "(I)LHairProvince$Province;"⟩
def dkwX0_in_1 : List UInt8 := [176]
abbrev dktX0_in_1 : List UInt8 := dkwX0_in_1 ++ []
def dkwX0_in_0 : List UInt8 := [42, 42, 180, 0, 38, 182, 1, 84, 181, 0, 53, 42, 180, 0, 53, 27, 182, 1, 61, 87, 42, 180, 0, 53]
abbrev dktX0_in_0 : List UInt8 := dkwX0_in_0 ++ dktX0_in_1
theorem dksX0_in_0 : cX0_in.data.toList.drop 0 = dktX0_in_0 := by decide +kernel
theorem dksX0_in_1 : cX0_in.data.toList.drop 24 = dktX0_in_1 := dk_seg dksX0_in_0 24 rfl rfl
theorem dX0_in_0 : decode cX0_in 0 = .ok (.aload_n 0, 1) := dk_42 (dk_at dksX0_in_0 0 rfl rfl)
theorem dX0_in_1 : decode cX0_in 1 = .ok (.aload_n 0, 1) := dk_42 (dk_at dksX0_in_0 1 rfl rfl)
theorem dX0_in_2 : decode cX0_in 2 = .ok (.getfield 38, 3) := dk_180 0 38 (dk_at dksX0_in_0 2 rfl rfl)
theorem dX0_in_5 : decode cX0_in 5 = .ok (.invokevirtual 340, 3) := dk_182 1 84 (dk_at dksX0_in_0 5 rfl rfl)
theorem dX0_in_8 : decode cX0_in 8 = .ok (.putfield 53, 3) := dk_181 0 53 (dk_at dksX0_in_0 8 rfl rfl)
theorem dX0_in_11 : decode cX0_in 11 = .ok (.aload_n 0, 1) := dk_42 (dk_at dksX0_in_0 11 rfl rfl)
theorem dX0_in_12 : decode cX0_in 12 = .ok (.getfield 53, 3) := dk_180 0 53 (dk_at dksX0_in_0 12 rfl rfl)
theorem dX0_in_15 : decode cX0_in 15 = .ok (.iload_n 1, 1) := dk_27 (dk_at dksX0_in_0 15 rfl rfl)
theorem dX0_in_16 : decode cX0_in 16 = .ok (.invokevirtual 317, 3) := dk_182 1 61 (dk_at dksX0_in_0 16 rfl rfl)
theorem dX0_in_19 : decode cX0_in 19 = .ok (.pop, 1) := dk_87 (dk_at dksX0_in_0 19 rfl rfl)
theorem dX0_in_20 : decode cX0_in 20 = .ok (.aload_n 0, 1) := dk_42 (dk_at dksX0_in_0 20 rfl rfl)
theorem dX0_in_21 : decode cX0_in 21 = .ok (.getfield 53, 3) := dk_180 0 53 (dk_at dksX0_in_0 21 rfl rfl)
theorem dX0_in_24 : decode cX0_in 24 = .ok (.areturn, 1) := dk_176 (dk_at dksX0_in_1 0 rfl rfl)
abbrev cX0_knownIn : ByteArray := prog_1_method_51_code
def yX0_knownIn : MethodName := ⟨RX0, "knownIn", "(II)I"⟩
def dkwX0_knownIn_2 : List UInt8 := [172]
abbrev dktX0_knownIn_2 : List UInt8 := dkwX0_knownIn_2 ++ []
def dkwX0_knownIn_1 : List UInt8 := [42, 28, 182, 1, 90, 180, 0, 211, 27, 50, 180, 1, 14, 182, 0, 102, 167, 0, 8, 42, 8, 182, 0, 98]
abbrev dktX0_knownIn_1 : List UInt8 := dkwX0_knownIn_1 ++ dktX0_knownIn_2
def dkwX0_knownIn_0 : List UInt8 := [42, 27, 182, 1, 8, 154, 0, 11, 42, 5, 182, 0, 98, 167, 0, 35, 28, 184, 1, 87, 153, 0, 23, 42]
abbrev dktX0_knownIn_0 : List UInt8 := dkwX0_knownIn_0 ++ dktX0_knownIn_1
theorem dksX0_knownIn_0 : cX0_knownIn.data.toList.drop 0 = dktX0_knownIn_0 := by decide +kernel
theorem dksX0_knownIn_1 : cX0_knownIn.data.toList.drop 24 = dktX0_knownIn_1 := dk_seg dksX0_knownIn_0 24 rfl rfl
theorem dksX0_knownIn_2 : cX0_knownIn.data.toList.drop 48 = dktX0_knownIn_2 := dk_seg dksX0_knownIn_1 24 rfl rfl
theorem dX0_knownIn_0 : decode cX0_knownIn 0 = .ok (.aload_n 0, 1) := dk_42 (dk_at dksX0_knownIn_0 0 rfl rfl)
theorem dX0_knownIn_1 : decode cX0_knownIn 1 = .ok (.iload_n 1, 1) := dk_27 (dk_at dksX0_knownIn_0 1 rfl rfl)
theorem dX0_knownIn_2 : decode cX0_knownIn 2 = .ok (.invokevirtual 264, 3) := dk_182 1 8 (dk_at dksX0_knownIn_0 2 rfl rfl)
theorem dX0_knownIn_5 : decode cX0_knownIn 5 = .ok (.ifCond .ne 11, 3) := dk_154 0 11 (dk_at dksX0_knownIn_0 5 rfl rfl)
theorem dX0_knownIn_8 : decode cX0_knownIn 8 = .ok (.aload_n 0, 1) := dk_42 (dk_at dksX0_knownIn_0 8 rfl rfl)
theorem dX0_knownIn_9 : decode cX0_knownIn 9 = .ok (.iconst 2, 1) := dk_5 (dk_at dksX0_knownIn_0 9 rfl rfl)
theorem dX0_knownIn_10 : decode cX0_knownIn 10 = .ok (.invokevirtual 98, 3) := dk_182 0 98 (dk_at dksX0_knownIn_0 10 rfl rfl)
theorem dX0_knownIn_13 : decode cX0_knownIn 13 = .ok (.goto 35, 3) := dk_167 0 35 (dk_at dksX0_knownIn_0 13 rfl rfl)
theorem dX0_knownIn_16 : decode cX0_knownIn 16 = .ok (.iload_n 2, 1) := dk_28 (dk_at dksX0_knownIn_0 16 rfl rfl)
theorem dX0_knownIn_17 : decode cX0_knownIn 17 = .ok (.invokestatic 343, 3) := dk_184 1 87 (dk_at dksX0_knownIn_0 17 rfl rfl)
theorem dX0_knownIn_20 : decode cX0_knownIn 20 = .ok (.ifCond .eq 23, 3) := dk_153 0 23 (dk_at dksX0_knownIn_0 20 rfl rfl)
theorem dX0_knownIn_23 : decode cX0_knownIn 23 = .ok (.aload_n 0, 1) := dk_42 (dk_at dksX0_knownIn_0 23 rfl rfl)
theorem dX0_knownIn_24 : decode cX0_knownIn 24 = .ok (.aload_n 0, 1) := dk_42 (dk_at dksX0_knownIn_1 0 rfl rfl)
theorem dX0_knownIn_25 : decode cX0_knownIn 25 = .ok (.iload_n 2, 1) := dk_28 (dk_at dksX0_knownIn_1 1 rfl rfl)
theorem dX0_knownIn_26 : decode cX0_knownIn 26 = .ok (.invokevirtual 346, 3) := dk_182 1 90 (dk_at dksX0_knownIn_1 2 rfl rfl)
theorem dX0_knownIn_29 : decode cX0_knownIn 29 = .ok (.getfield 211, 3) := dk_180 0 211 (dk_at dksX0_knownIn_1 5 rfl rfl)
theorem dX0_knownIn_32 : decode cX0_knownIn 32 = .ok (.iload_n 1, 1) := dk_27 (dk_at dksX0_knownIn_1 8 rfl rfl)
theorem dX0_knownIn_33 : decode cX0_knownIn 33 = .ok (.aaload, 1) := dk_50 (dk_at dksX0_knownIn_1 9 rfl rfl)
theorem dX0_knownIn_34 : decode cX0_knownIn 34 = .ok (.getfield 270, 3) := dk_180 1 14 (dk_at dksX0_knownIn_1 10 rfl rfl)
theorem dX0_knownIn_37 : decode cX0_knownIn 37 = .ok (.invokevirtual 102, 3) := dk_182 0 102 (dk_at dksX0_knownIn_1 13 rfl rfl)
theorem dX0_knownIn_40 : decode cX0_knownIn 40 = .ok (.goto 8, 3) := dk_167 0 8 (dk_at dksX0_knownIn_1 16 rfl rfl)
theorem dX0_knownIn_43 : decode cX0_knownIn 43 = .ok (.aload_n 0, 1) := dk_42 (dk_at dksX0_knownIn_1 19 rfl rfl)
theorem dX0_knownIn_44 : decode cX0_knownIn 44 = .ok (.iconst 5, 1) := dk_8 (dk_at dksX0_knownIn_1 20 rfl rfl)
theorem dX0_knownIn_45 : decode cX0_knownIn 45 = .ok (.invokevirtual 98, 3) := dk_182 0 98 (dk_at dksX0_knownIn_1 21 rfl rfl)
theorem dX0_knownIn_48 : decode cX0_knownIn 48 = .ok (.ireturn, 1) := dk_172 (dk_at dksX0_knownIn_2 0 rfl rfl)
abbrev cX0_out : ByteArray := prog_1_method_52_code
def yX0_out : MethodName := ⟨RX0, "out", "(I)I"⟩
def dkwX0_out_3 : List UInt8 := [172]
abbrev dktX0_out_3 : List UInt8 := dkwX0_out_3 ++ []
def dkwX0_out_2 : List UInt8 := [182, 1, 1, 159, 0, 9, 42, 29, 182, 0, 102, 172, 132, 3, 1, 167, 255, 218, 42, 16, 8, 182, 0, 98]
abbrev dktX0_out_2 : List UInt8 := dkwX0_out_2 ++ dktX0_out_3
def dkwX0_out_1 : List UInt8 := [17, 0, 200, 163, 0, 37, 44, 182, 1, 93, 44, 27, 3, 182, 1, 1, 42, 180, 0, 38, 27, 3]
abbrev dktX0_out_1 : List UInt8 := dkwX0_out_1 ++ dktX0_out_2
def dkwX0_out_0 : List UInt8 := [42, 27, 182, 0, 242, 154, 0, 9, 42, 5, 182, 0, 98, 172, 42, 3, 182, 1, 90, 77, 4, 62, 29]
abbrev dktX0_out_0 : List UInt8 := dkwX0_out_0 ++ dktX0_out_1
theorem dksX0_out_0 : cX0_out.data.toList.drop 0 = dktX0_out_0 := by decide +kernel
theorem dksX0_out_1 : cX0_out.data.toList.drop 23 = dktX0_out_1 := dk_seg dksX0_out_0 23 rfl rfl
theorem dksX0_out_2 : cX0_out.data.toList.drop 45 = dktX0_out_2 := dk_seg dksX0_out_1 22 rfl rfl
theorem dksX0_out_3 : cX0_out.data.toList.drop 69 = dktX0_out_3 := dk_seg dksX0_out_2 24 rfl rfl
theorem dX0_out_0 : decode cX0_out 0 = .ok (.aload_n 0, 1) := dk_42 (dk_at dksX0_out_0 0 rfl rfl)
theorem dX0_out_1 : decode cX0_out 1 = .ok (.iload_n 1, 1) := dk_27 (dk_at dksX0_out_0 1 rfl rfl)
theorem dX0_out_2 : decode cX0_out 2 = .ok (.invokevirtual 242, 3) := dk_182 0 242 (dk_at dksX0_out_0 2 rfl rfl)
theorem dX0_out_5 : decode cX0_out 5 = .ok (.ifCond .ne 9, 3) := dk_154 0 9 (dk_at dksX0_out_0 5 rfl rfl)
theorem dX0_out_8 : decode cX0_out 8 = .ok (.aload_n 0, 1) := dk_42 (dk_at dksX0_out_0 8 rfl rfl)
theorem dX0_out_9 : decode cX0_out 9 = .ok (.iconst 2, 1) := dk_5 (dk_at dksX0_out_0 9 rfl rfl)
theorem dX0_out_10 : decode cX0_out 10 = .ok (.invokevirtual 98, 3) := dk_182 0 98 (dk_at dksX0_out_0 10 rfl rfl)
theorem dX0_out_13 : decode cX0_out 13 = .ok (.ireturn, 1) := dk_172 (dk_at dksX0_out_0 13 rfl rfl)
theorem dX0_out_14 : decode cX0_out 14 = .ok (.aload_n 0, 1) := dk_42 (dk_at dksX0_out_0 14 rfl rfl)
theorem dX0_out_15 : decode cX0_out 15 = .ok (.iconst 0, 1) := dk_3 (dk_at dksX0_out_0 15 rfl rfl)
theorem dX0_out_16 : decode cX0_out 16 = .ok (.invokevirtual 346, 3) := dk_182 1 90 (dk_at dksX0_out_0 16 rfl rfl)
theorem dX0_out_19 : decode cX0_out 19 = .ok (.astore_n 2, 1) := dk_77 (dk_at dksX0_out_0 19 rfl rfl)
theorem dX0_out_20 : decode cX0_out 20 = .ok (.iconst 1, 1) := dk_4 (dk_at dksX0_out_0 20 rfl rfl)
theorem dX0_out_21 : decode cX0_out 21 = .ok (.istore_n 3, 1) := dk_62 (dk_at dksX0_out_0 21 rfl rfl)
theorem dX0_out_22 : decode cX0_out 22 = .ok (.iload_n 3, 1) := dk_29 (dk_at dksX0_out_0 22 rfl rfl)
theorem dX0_out_23 : decode cX0_out 23 = .ok (.sipush 200, 3) := dk_17 0 200 (dk_at dksX0_out_1 0 rfl rfl)
theorem dX0_out_26 : decode cX0_out 26 = .ok (.if_icmp .gt 37, 3) := dk_163 0 37 (dk_at dksX0_out_1 3 rfl rfl)
theorem dX0_out_29 : decode cX0_out 29 = .ok (.aload_n 2, 1) := dk_44 (dk_at dksX0_out_1 6 rfl rfl)
theorem dX0_out_30 : decode cX0_out 30 = .ok (.invokevirtual 349, 3) := dk_182 1 93 (dk_at dksX0_out_1 7 rfl rfl)
theorem dX0_out_33 : decode cX0_out 33 = .ok (.aload_n 2, 1) := dk_44 (dk_at dksX0_out_1 10 rfl rfl)
theorem dX0_out_34 : decode cX0_out 34 = .ok (.iload_n 1, 1) := dk_27 (dk_at dksX0_out_1 11 rfl rfl)
theorem dX0_out_35 : decode cX0_out 35 = .ok (.iconst 0, 1) := dk_3 (dk_at dksX0_out_1 12 rfl rfl)
theorem dX0_out_36 : decode cX0_out 36 = .ok (.invokevirtual 257, 3) := dk_182 1 1 (dk_at dksX0_out_1 13 rfl rfl)
theorem dX0_out_39 : decode cX0_out 39 = .ok (.aload_n 0, 1) := dk_42 (dk_at dksX0_out_1 16 rfl rfl)
theorem dX0_out_40 : decode cX0_out 40 = .ok (.getfield 38, 3) := dk_180 0 38 (dk_at dksX0_out_1 17 rfl rfl)
theorem dX0_out_43 : decode cX0_out 43 = .ok (.iload_n 1, 1) := dk_27 (dk_at dksX0_out_1 20 rfl rfl)
theorem dX0_out_44 : decode cX0_out 44 = .ok (.iconst 0, 1) := dk_3 (dk_at dksX0_out_1 21 rfl rfl)
theorem dX0_out_45 : decode cX0_out 45 = .ok (.invokevirtual 257, 3) := dk_182 1 1 (dk_at dksX0_out_2 0 rfl rfl)
theorem dX0_out_48 : decode cX0_out 48 = .ok (.if_icmp .eq 9, 3) := dk_159 0 9 (dk_at dksX0_out_2 3 rfl rfl)
theorem dX0_out_51 : decode cX0_out 51 = .ok (.aload_n 0, 1) := dk_42 (dk_at dksX0_out_2 6 rfl rfl)
theorem dX0_out_52 : decode cX0_out 52 = .ok (.iload_n 3, 1) := dk_29 (dk_at dksX0_out_2 7 rfl rfl)
theorem dX0_out_53 : decode cX0_out 53 = .ok (.invokevirtual 102, 3) := dk_182 0 102 (dk_at dksX0_out_2 8 rfl rfl)
theorem dX0_out_56 : decode cX0_out 56 = .ok (.ireturn, 1) := dk_172 (dk_at dksX0_out_2 11 rfl rfl)
theorem dX0_out_57 : decode cX0_out 57 = .ok (.iinc 3 1, 3) := dk_132 3 1 (dk_at dksX0_out_2 12 rfl rfl)
theorem dX0_out_60 : decode cX0_out 60 = .ok (.goto (-38), 3) := dk_167 255 218 (dk_at dksX0_out_2 15 rfl rfl)
theorem dX0_out_63 : decode cX0_out 63 = .ok (.aload_n 0, 1) := dk_42 (dk_at dksX0_out_2 18 rfl rfl)
theorem dX0_out_64 : decode cX0_out 64 = .ok (.bipush 8, 2) := dk_16 8 (dk_at dksX0_out_2 19 rfl rfl)
theorem dX0_out_66 : decode cX0_out 66 = .ok (.invokevirtual 98, 3) := dk_182 0 98 (dk_at dksX0_out_2 21 rfl rfl)
theorem dX0_out_69 : decode cX0_out 69 = .ok (.ireturn, 1) := dk_172 (dk_at dksX0_out_3 0 rfl rfl)
abbrev cX0_learnsIn : ByteArray := prog_1_method_53_code
def yX0_learnsIn : MethodName := ⟨RX0, "learnsIn", "(II)I"⟩
def dkwX0_learnsIn_3 : List UInt8 := [42, 16, 8, 182, 0, 98, 172]
abbrev dktX0_learnsIn_3 : List UInt8 := dkwX0_learnsIn_3 ++ []
def dkwX0_learnsIn_2 : List UInt8 := [28, 184, 1, 23, 153, 0, 10, 42, 21, 4, 182, 0, 102, 172, 45, 182, 1, 93, 132, 4, 1, 167, 255, 218]
abbrev dktX0_learnsIn_2 : List UInt8 := dkwX0_learnsIn_2 ++ dktX0_learnsIn_3
def dkwX0_learnsIn_1 : List UInt8 := [182, 1, 90, 78, 3, 54, 4, 21, 4, 17, 0, 200, 163, 0, 36, 45, 180, 0, 211, 27, 50, 180, 1, 14]
abbrev dktX0_learnsIn_1 : List UInt8 := dkwX0_learnsIn_1 ++ dktX0_learnsIn_2
def dkwX0_learnsIn_0 : List UInt8 := [42, 27, 182, 1, 8, 153, 0, 11, 42, 28, 182, 0, 242, 154, 0, 9, 42, 5, 182, 0, 98, 172, 42, 3]
abbrev dktX0_learnsIn_0 : List UInt8 := dkwX0_learnsIn_0 ++ dktX0_learnsIn_1
theorem dksX0_learnsIn_0 : cX0_learnsIn.data.toList.drop 0 = dktX0_learnsIn_0 := by decide +kernel
theorem dksX0_learnsIn_1 : cX0_learnsIn.data.toList.drop 24 = dktX0_learnsIn_1 := dk_seg dksX0_learnsIn_0 24 rfl rfl
theorem dksX0_learnsIn_2 : cX0_learnsIn.data.toList.drop 48 = dktX0_learnsIn_2 := dk_seg dksX0_learnsIn_1 24 rfl rfl
theorem dksX0_learnsIn_3 : cX0_learnsIn.data.toList.drop 72 = dktX0_learnsIn_3 := dk_seg dksX0_learnsIn_2 24 rfl rfl
theorem dX0_learnsIn_0 : decode cX0_learnsIn 0 = .ok (.aload_n 0, 1) := dk_42 (dk_at dksX0_learnsIn_0 0 rfl rfl)
theorem dX0_learnsIn_1 : decode cX0_learnsIn 1 = .ok (.iload_n 1, 1) := dk_27 (dk_at dksX0_learnsIn_0 1 rfl rfl)
theorem dX0_learnsIn_2 : decode cX0_learnsIn 2 = .ok (.invokevirtual 264, 3) := dk_182 1 8 (dk_at dksX0_learnsIn_0 2 rfl rfl)
theorem dX0_learnsIn_5 : decode cX0_learnsIn 5 = .ok (.ifCond .eq 11, 3) := dk_153 0 11 (dk_at dksX0_learnsIn_0 5 rfl rfl)
theorem dX0_learnsIn_8 : decode cX0_learnsIn 8 = .ok (.aload_n 0, 1) := dk_42 (dk_at dksX0_learnsIn_0 8 rfl rfl)
theorem dX0_learnsIn_9 : decode cX0_learnsIn 9 = .ok (.iload_n 2, 1) := dk_28 (dk_at dksX0_learnsIn_0 9 rfl rfl)
theorem dX0_learnsIn_10 : decode cX0_learnsIn 10 = .ok (.invokevirtual 242, 3) := dk_182 0 242 (dk_at dksX0_learnsIn_0 10 rfl rfl)
theorem dX0_learnsIn_13 : decode cX0_learnsIn 13 = .ok (.ifCond .ne 9, 3) := dk_154 0 9 (dk_at dksX0_learnsIn_0 13 rfl rfl)
theorem dX0_learnsIn_16 : decode cX0_learnsIn 16 = .ok (.aload_n 0, 1) := dk_42 (dk_at dksX0_learnsIn_0 16 rfl rfl)
theorem dX0_learnsIn_17 : decode cX0_learnsIn 17 = .ok (.iconst 2, 1) := dk_5 (dk_at dksX0_learnsIn_0 17 rfl rfl)
theorem dX0_learnsIn_18 : decode cX0_learnsIn 18 = .ok (.invokevirtual 98, 3) := dk_182 0 98 (dk_at dksX0_learnsIn_0 18 rfl rfl)
theorem dX0_learnsIn_21 : decode cX0_learnsIn 21 = .ok (.ireturn, 1) := dk_172 (dk_at dksX0_learnsIn_0 21 rfl rfl)
theorem dX0_learnsIn_22 : decode cX0_learnsIn 22 = .ok (.aload_n 0, 1) := dk_42 (dk_at dksX0_learnsIn_0 22 rfl rfl)
theorem dX0_learnsIn_23 : decode cX0_learnsIn 23 = .ok (.iconst 0, 1) := dk_3 (dk_at dksX0_learnsIn_0 23 rfl rfl)
theorem dX0_learnsIn_24 : decode cX0_learnsIn 24 = .ok (.invokevirtual 346, 3) := dk_182 1 90 (dk_at dksX0_learnsIn_1 0 rfl rfl)
theorem dX0_learnsIn_27 : decode cX0_learnsIn 27 = .ok (.astore_n 3, 1) := dk_78 (dk_at dksX0_learnsIn_1 3 rfl rfl)
theorem dX0_learnsIn_28 : decode cX0_learnsIn 28 = .ok (.iconst 0, 1) := dk_3 (dk_at dksX0_learnsIn_1 4 rfl rfl)
theorem dX0_learnsIn_29 : decode cX0_learnsIn 29 = .ok (.istore 4, 2) := dk_54 4 (dk_at dksX0_learnsIn_1 5 rfl rfl)
theorem dX0_learnsIn_31 : decode cX0_learnsIn 31 = .ok (.iload 4, 2) := dk_21 4 (dk_at dksX0_learnsIn_1 7 rfl rfl)
theorem dX0_learnsIn_33 : decode cX0_learnsIn 33 = .ok (.sipush 200, 3) := dk_17 0 200 (dk_at dksX0_learnsIn_1 9 rfl rfl)
theorem dX0_learnsIn_36 : decode cX0_learnsIn 36 = .ok (.if_icmp .gt 36, 3) := dk_163 0 36 (dk_at dksX0_learnsIn_1 12 rfl rfl)
theorem dX0_learnsIn_39 : decode cX0_learnsIn 39 = .ok (.aload_n 3, 1) := dk_45 (dk_at dksX0_learnsIn_1 15 rfl rfl)
theorem dX0_learnsIn_40 : decode cX0_learnsIn 40 = .ok (.getfield 211, 3) := dk_180 0 211 (dk_at dksX0_learnsIn_1 16 rfl rfl)
theorem dX0_learnsIn_43 : decode cX0_learnsIn 43 = .ok (.iload_n 1, 1) := dk_27 (dk_at dksX0_learnsIn_1 19 rfl rfl)
theorem dX0_learnsIn_44 : decode cX0_learnsIn 44 = .ok (.aaload, 1) := dk_50 (dk_at dksX0_learnsIn_1 20 rfl rfl)
theorem dX0_learnsIn_45 : decode cX0_learnsIn 45 = .ok (.getfield 270, 3) := dk_180 1 14 (dk_at dksX0_learnsIn_1 21 rfl rfl)
theorem dX0_learnsIn_48 : decode cX0_learnsIn 48 = .ok (.iload_n 2, 1) := dk_28 (dk_at dksX0_learnsIn_2 0 rfl rfl)
theorem dX0_learnsIn_49 : decode cX0_learnsIn 49 = .ok (.invokestatic 279, 3) := dk_184 1 23 (dk_at dksX0_learnsIn_2 1 rfl rfl)
theorem dX0_learnsIn_52 : decode cX0_learnsIn 52 = .ok (.ifCond .eq 10, 3) := dk_153 0 10 (dk_at dksX0_learnsIn_2 4 rfl rfl)
theorem dX0_learnsIn_55 : decode cX0_learnsIn 55 = .ok (.aload_n 0, 1) := dk_42 (dk_at dksX0_learnsIn_2 7 rfl rfl)
theorem dX0_learnsIn_56 : decode cX0_learnsIn 56 = .ok (.iload 4, 2) := dk_21 4 (dk_at dksX0_learnsIn_2 8 rfl rfl)
theorem dX0_learnsIn_58 : decode cX0_learnsIn 58 = .ok (.invokevirtual 102, 3) := dk_182 0 102 (dk_at dksX0_learnsIn_2 10 rfl rfl)
theorem dX0_learnsIn_61 : decode cX0_learnsIn 61 = .ok (.ireturn, 1) := dk_172 (dk_at dksX0_learnsIn_2 13 rfl rfl)
theorem dX0_learnsIn_62 : decode cX0_learnsIn 62 = .ok (.aload_n 3, 1) := dk_45 (dk_at dksX0_learnsIn_2 14 rfl rfl)
theorem dX0_learnsIn_63 : decode cX0_learnsIn 63 = .ok (.invokevirtual 349, 3) := dk_182 1 93 (dk_at dksX0_learnsIn_2 15 rfl rfl)
theorem dX0_learnsIn_66 : decode cX0_learnsIn 66 = .ok (.iinc 4 1, 3) := dk_132 4 1 (dk_at dksX0_learnsIn_2 18 rfl rfl)
theorem dX0_learnsIn_69 : decode cX0_learnsIn 69 = .ok (.goto (-38), 3) := dk_167 255 218 (dk_at dksX0_learnsIn_2 21 rfl rfl)
theorem dX0_learnsIn_72 : decode cX0_learnsIn 72 = .ok (.aload_n 0, 1) := dk_42 (dk_at dksX0_learnsIn_3 0 rfl rfl)
theorem dX0_learnsIn_73 : decode cX0_learnsIn 73 = .ok (.bipush 8, 2) := dk_16 8 (dk_at dksX0_learnsIn_3 1 rfl rfl)
theorem dX0_learnsIn_75 : decode cX0_learnsIn 75 = .ok (.invokevirtual 98, 3) := dk_182 0 98 (dk_at dksX0_learnsIn_3 3 rfl rfl)
theorem dX0_learnsIn_78 : decode cX0_learnsIn 78 = .ok (.ireturn, 1) := dk_172 (dk_at dksX0_learnsIn_3 6 rfl rfl)
abbrev cX0_wildIn : ByteArray := prog_1_method_54_code
def yX0_wildIn : MethodName := ⟨RX0, "wildIn", "(I)I"⟩
def dkwX0_wildIn_2 : List UInt8 := [182, 0, 102, 172, 42, 180, 0, 53, 182, 1, 93, 132, 3, 1, 167, 255, 222, 42, 16, 8, 182, 0, 98, 172]
abbrev dktX0_wildIn_2 : List UInt8 := dkwX0_wildIn_2 ++ []
def dkwX0_wildIn_1 : List UInt8 := [77, 3, 62, 29, 17, 0, 200, 163, 0, 33, 44, 182, 1, 20, 44, 180, 1, 11, 164, 0, 9, 42, 29]
abbrev dktX0_wildIn_1 : List UInt8 := dkwX0_wildIn_1 ++ dktX0_wildIn_2
def dkwX0_wildIn_0 : List UInt8 := [42, 27, 182, 1, 8, 154, 0, 9, 42, 5, 182, 0, 98, 172, 42, 3, 182, 1, 90, 180, 0, 211, 27, 50]
abbrev dktX0_wildIn_0 : List UInt8 := dkwX0_wildIn_0 ++ dktX0_wildIn_1
theorem dksX0_wildIn_0 : cX0_wildIn.data.toList.drop 0 = dktX0_wildIn_0 := by decide +kernel
theorem dksX0_wildIn_1 : cX0_wildIn.data.toList.drop 24 = dktX0_wildIn_1 := dk_seg dksX0_wildIn_0 24 rfl rfl
theorem dksX0_wildIn_2 : cX0_wildIn.data.toList.drop 47 = dktX0_wildIn_2 := dk_seg dksX0_wildIn_1 23 rfl rfl
theorem dX0_wildIn_0 : decode cX0_wildIn 0 = .ok (.aload_n 0, 1) := dk_42 (dk_at dksX0_wildIn_0 0 rfl rfl)
theorem dX0_wildIn_1 : decode cX0_wildIn 1 = .ok (.iload_n 1, 1) := dk_27 (dk_at dksX0_wildIn_0 1 rfl rfl)
theorem dX0_wildIn_2 : decode cX0_wildIn 2 = .ok (.invokevirtual 264, 3) := dk_182 1 8 (dk_at dksX0_wildIn_0 2 rfl rfl)
theorem dX0_wildIn_5 : decode cX0_wildIn 5 = .ok (.ifCond .ne 9, 3) := dk_154 0 9 (dk_at dksX0_wildIn_0 5 rfl rfl)
theorem dX0_wildIn_8 : decode cX0_wildIn 8 = .ok (.aload_n 0, 1) := dk_42 (dk_at dksX0_wildIn_0 8 rfl rfl)
theorem dX0_wildIn_9 : decode cX0_wildIn 9 = .ok (.iconst 2, 1) := dk_5 (dk_at dksX0_wildIn_0 9 rfl rfl)
theorem dX0_wildIn_10 : decode cX0_wildIn 10 = .ok (.invokevirtual 98, 3) := dk_182 0 98 (dk_at dksX0_wildIn_0 10 rfl rfl)
theorem dX0_wildIn_13 : decode cX0_wildIn 13 = .ok (.ireturn, 1) := dk_172 (dk_at dksX0_wildIn_0 13 rfl rfl)
theorem dX0_wildIn_14 : decode cX0_wildIn 14 = .ok (.aload_n 0, 1) := dk_42 (dk_at dksX0_wildIn_0 14 rfl rfl)
theorem dX0_wildIn_15 : decode cX0_wildIn 15 = .ok (.iconst 0, 1) := dk_3 (dk_at dksX0_wildIn_0 15 rfl rfl)
theorem dX0_wildIn_16 : decode cX0_wildIn 16 = .ok (.invokevirtual 346, 3) := dk_182 1 90 (dk_at dksX0_wildIn_0 16 rfl rfl)
theorem dX0_wildIn_19 : decode cX0_wildIn 19 = .ok (.getfield 211, 3) := dk_180 0 211 (dk_at dksX0_wildIn_0 19 rfl rfl)
theorem dX0_wildIn_22 : decode cX0_wildIn 22 = .ok (.iload_n 1, 1) := dk_27 (dk_at dksX0_wildIn_0 22 rfl rfl)
theorem dX0_wildIn_23 : decode cX0_wildIn 23 = .ok (.aaload, 1) := dk_50 (dk_at dksX0_wildIn_0 23 rfl rfl)
theorem dX0_wildIn_24 : decode cX0_wildIn 24 = .ok (.astore_n 2, 1) := dk_77 (dk_at dksX0_wildIn_1 0 rfl rfl)
theorem dX0_wildIn_25 : decode cX0_wildIn 25 = .ok (.iconst 0, 1) := dk_3 (dk_at dksX0_wildIn_1 1 rfl rfl)
theorem dX0_wildIn_26 : decode cX0_wildIn 26 = .ok (.istore_n 3, 1) := dk_62 (dk_at dksX0_wildIn_1 2 rfl rfl)
theorem dX0_wildIn_27 : decode cX0_wildIn 27 = .ok (.iload_n 3, 1) := dk_29 (dk_at dksX0_wildIn_1 3 rfl rfl)
theorem dX0_wildIn_28 : decode cX0_wildIn 28 = .ok (.sipush 200, 3) := dk_17 0 200 (dk_at dksX0_wildIn_1 4 rfl rfl)
theorem dX0_wildIn_31 : decode cX0_wildIn 31 = .ok (.if_icmp .gt 33, 3) := dk_163 0 33 (dk_at dksX0_wildIn_1 7 rfl rfl)
theorem dX0_wildIn_34 : decode cX0_wildIn 34 = .ok (.aload_n 2, 1) := dk_44 (dk_at dksX0_wildIn_1 10 rfl rfl)
theorem dX0_wildIn_35 : decode cX0_wildIn 35 = .ok (.invokevirtual 276, 3) := dk_182 1 20 (dk_at dksX0_wildIn_1 11 rfl rfl)
theorem dX0_wildIn_38 : decode cX0_wildIn 38 = .ok (.aload_n 2, 1) := dk_44 (dk_at dksX0_wildIn_1 14 rfl rfl)
theorem dX0_wildIn_39 : decode cX0_wildIn 39 = .ok (.getfield 267, 3) := dk_180 1 11 (dk_at dksX0_wildIn_1 15 rfl rfl)
theorem dX0_wildIn_42 : decode cX0_wildIn 42 = .ok (.if_icmp .le 9, 3) := dk_164 0 9 (dk_at dksX0_wildIn_1 18 rfl rfl)
theorem dX0_wildIn_45 : decode cX0_wildIn 45 = .ok (.aload_n 0, 1) := dk_42 (dk_at dksX0_wildIn_1 21 rfl rfl)
theorem dX0_wildIn_46 : decode cX0_wildIn 46 = .ok (.iload_n 3, 1) := dk_29 (dk_at dksX0_wildIn_1 22 rfl rfl)
theorem dX0_wildIn_47 : decode cX0_wildIn 47 = .ok (.invokevirtual 102, 3) := dk_182 0 102 (dk_at dksX0_wildIn_2 0 rfl rfl)
theorem dX0_wildIn_50 : decode cX0_wildIn 50 = .ok (.ireturn, 1) := dk_172 (dk_at dksX0_wildIn_2 3 rfl rfl)
theorem dX0_wildIn_51 : decode cX0_wildIn 51 = .ok (.aload_n 0, 1) := dk_42 (dk_at dksX0_wildIn_2 4 rfl rfl)
theorem dX0_wildIn_52 : decode cX0_wildIn 52 = .ok (.getfield 53, 3) := dk_180 0 53 (dk_at dksX0_wildIn_2 5 rfl rfl)
theorem dX0_wildIn_55 : decode cX0_wildIn 55 = .ok (.invokevirtual 349, 3) := dk_182 1 93 (dk_at dksX0_wildIn_2 8 rfl rfl)
theorem dX0_wildIn_58 : decode cX0_wildIn 58 = .ok (.iinc 3 1, 3) := dk_132 3 1 (dk_at dksX0_wildIn_2 11 rfl rfl)
theorem dX0_wildIn_61 : decode cX0_wildIn 61 = .ok (.goto (-34), 3) := dk_167 255 222 (dk_at dksX0_wildIn_2 14 rfl rfl)
theorem dX0_wildIn_64 : decode cX0_wildIn 64 = .ok (.aload_n 0, 1) := dk_42 (dk_at dksX0_wildIn_2 17 rfl rfl)
theorem dX0_wildIn_65 : decode cX0_wildIn 65 = .ok (.bipush 8, 2) := dk_16 8 (dk_at dksX0_wildIn_2 18 rfl rfl)
theorem dX0_wildIn_67 : decode cX0_wildIn 67 = .ok (.invokevirtual 98, 3) := dk_182 0 98 (dk_at dksX0_wildIn_2 20 rfl rfl)
theorem dX0_wildIn_70 : decode cX0_wildIn 70 = .ok (.ireturn, 1) := dk_172 (dk_at dksX0_wildIn_2 23 rfl rfl)
abbrev cX0_dinesIn : ByteArray := prog_1_method_55_code
def yX0_dinesIn : MethodName := ⟨RX0, "dinesIn", "(I)I"⟩
def dkwX0_dinesIn_4 : List UInt8 := [182, 1, 53, 172]
abbrev dktX0_dinesIn_4 : List UInt8 := dkwX0_dinesIn_4 ++ []
def dkwX0_dinesIn_3 : List UInt8 := [28, 2, 159, 0, 9, 21, 5, 28, 162, 0, 6, 21, 5, 61, 132, 3, 1, 167, 255, 187, 42, 28]
abbrev dktX0_dinesIn_3 : List UInt8 := dkwX0_dinesIn_3 ++ dktX0_dinesIn_4
def dkwX0_dinesIn_2 : List UInt8 := [180, 0, 38, 180, 0, 227, 25, 4, 180, 1, 47, 112, 100, 54, 5, 25, 4, 27, 182, 1, 95, 153, 0, 17]
abbrev dktX0_dinesIn_2 : List UInt8 := dkwX0_dinesIn_2 ++ dktX0_dinesIn_3
def dkwX0_dinesIn_1 : List UInt8 := [180, 0, 155, 162, 0, 64, 42, 180, 0, 38, 180, 1, 35, 29, 50, 58, 4, 25, 4, 180, 1, 47, 42]
abbrev dktX0_dinesIn_1 : List UInt8 := dkwX0_dinesIn_1 ++ dktX0_dinesIn_2
def dkwX0_dinesIn_0 : List UInt8 := [42, 27, 182, 1, 8, 154, 0, 9, 42, 5, 182, 0, 98, 172, 2, 61, 3, 62, 29, 42, 180, 0, 38]
abbrev dktX0_dinesIn_0 : List UInt8 := dkwX0_dinesIn_0 ++ dktX0_dinesIn_1
theorem dksX0_dinesIn_0 : cX0_dinesIn.data.toList.drop 0 = dktX0_dinesIn_0 := by decide +kernel
theorem dksX0_dinesIn_1 : cX0_dinesIn.data.toList.drop 23 = dktX0_dinesIn_1 := dk_seg dksX0_dinesIn_0 23 rfl rfl
theorem dksX0_dinesIn_2 : cX0_dinesIn.data.toList.drop 46 = dktX0_dinesIn_2 := dk_seg dksX0_dinesIn_1 23 rfl rfl
theorem dksX0_dinesIn_3 : cX0_dinesIn.data.toList.drop 70 = dktX0_dinesIn_3 := dk_seg dksX0_dinesIn_2 24 rfl rfl
theorem dksX0_dinesIn_4 : cX0_dinesIn.data.toList.drop 92 = dktX0_dinesIn_4 := dk_seg dksX0_dinesIn_3 22 rfl rfl
theorem dX0_dinesIn_0 : decode cX0_dinesIn 0 = .ok (.aload_n 0, 1) := dk_42 (dk_at dksX0_dinesIn_0 0 rfl rfl)
theorem dX0_dinesIn_1 : decode cX0_dinesIn 1 = .ok (.iload_n 1, 1) := dk_27 (dk_at dksX0_dinesIn_0 1 rfl rfl)
theorem dX0_dinesIn_2 : decode cX0_dinesIn 2 = .ok (.invokevirtual 264, 3) := dk_182 1 8 (dk_at dksX0_dinesIn_0 2 rfl rfl)
theorem dX0_dinesIn_5 : decode cX0_dinesIn 5 = .ok (.ifCond .ne 9, 3) := dk_154 0 9 (dk_at dksX0_dinesIn_0 5 rfl rfl)
theorem dX0_dinesIn_8 : decode cX0_dinesIn 8 = .ok (.aload_n 0, 1) := dk_42 (dk_at dksX0_dinesIn_0 8 rfl rfl)
theorem dX0_dinesIn_9 : decode cX0_dinesIn 9 = .ok (.iconst 2, 1) := dk_5 (dk_at dksX0_dinesIn_0 9 rfl rfl)
theorem dX0_dinesIn_10 : decode cX0_dinesIn 10 = .ok (.invokevirtual 98, 3) := dk_182 0 98 (dk_at dksX0_dinesIn_0 10 rfl rfl)
theorem dX0_dinesIn_13 : decode cX0_dinesIn 13 = .ok (.ireturn, 1) := dk_172 (dk_at dksX0_dinesIn_0 13 rfl rfl)
theorem dX0_dinesIn_14 : decode cX0_dinesIn 14 = .ok (.iconst (-1), 1) := dk_2 (dk_at dksX0_dinesIn_0 14 rfl rfl)
theorem dX0_dinesIn_15 : decode cX0_dinesIn 15 = .ok (.istore_n 2, 1) := dk_61 (dk_at dksX0_dinesIn_0 15 rfl rfl)
theorem dX0_dinesIn_16 : decode cX0_dinesIn 16 = .ok (.iconst 0, 1) := dk_3 (dk_at dksX0_dinesIn_0 16 rfl rfl)
theorem dX0_dinesIn_17 : decode cX0_dinesIn 17 = .ok (.istore_n 3, 1) := dk_62 (dk_at dksX0_dinesIn_0 17 rfl rfl)
theorem dX0_dinesIn_18 : decode cX0_dinesIn 18 = .ok (.iload_n 3, 1) := dk_29 (dk_at dksX0_dinesIn_0 18 rfl rfl)
theorem dX0_dinesIn_19 : decode cX0_dinesIn 19 = .ok (.aload_n 0, 1) := dk_42 (dk_at dksX0_dinesIn_0 19 rfl rfl)
theorem dX0_dinesIn_20 : decode cX0_dinesIn 20 = .ok (.getfield 38, 3) := dk_180 0 38 (dk_at dksX0_dinesIn_0 20 rfl rfl)
theorem dX0_dinesIn_23 : decode cX0_dinesIn 23 = .ok (.getfield 155, 3) := dk_180 0 155 (dk_at dksX0_dinesIn_1 0 rfl rfl)
theorem dX0_dinesIn_26 : decode cX0_dinesIn 26 = .ok (.if_icmp .ge 64, 3) := dk_162 0 64 (dk_at dksX0_dinesIn_1 3 rfl rfl)
theorem dX0_dinesIn_29 : decode cX0_dinesIn 29 = .ok (.aload_n 0, 1) := dk_42 (dk_at dksX0_dinesIn_1 6 rfl rfl)
theorem dX0_dinesIn_30 : decode cX0_dinesIn 30 = .ok (.getfield 38, 3) := dk_180 0 38 (dk_at dksX0_dinesIn_1 7 rfl rfl)
theorem dX0_dinesIn_33 : decode cX0_dinesIn 33 = .ok (.getfield 291, 3) := dk_180 1 35 (dk_at dksX0_dinesIn_1 10 rfl rfl)
theorem dX0_dinesIn_36 : decode cX0_dinesIn 36 = .ok (.iload_n 3, 1) := dk_29 (dk_at dksX0_dinesIn_1 13 rfl rfl)
theorem dX0_dinesIn_37 : decode cX0_dinesIn 37 = .ok (.aaload, 1) := dk_50 (dk_at dksX0_dinesIn_1 14 rfl rfl)
theorem dX0_dinesIn_38 : decode cX0_dinesIn 38 = .ok (.astore 4, 2) := dk_58 4 (dk_at dksX0_dinesIn_1 15 rfl rfl)
theorem dX0_dinesIn_40 : decode cX0_dinesIn 40 = .ok (.aload 4, 2) := dk_25 4 (dk_at dksX0_dinesIn_1 17 rfl rfl)
theorem dX0_dinesIn_42 : decode cX0_dinesIn 42 = .ok (.getfield 303, 3) := dk_180 1 47 (dk_at dksX0_dinesIn_1 19 rfl rfl)
theorem dX0_dinesIn_45 : decode cX0_dinesIn 45 = .ok (.aload_n 0, 1) := dk_42 (dk_at dksX0_dinesIn_1 22 rfl rfl)
theorem dX0_dinesIn_46 : decode cX0_dinesIn 46 = .ok (.getfield 38, 3) := dk_180 0 38 (dk_at dksX0_dinesIn_2 0 rfl rfl)
theorem dX0_dinesIn_49 : decode cX0_dinesIn 49 = .ok (.getfield 227, 3) := dk_180 0 227 (dk_at dksX0_dinesIn_2 3 rfl rfl)
theorem dX0_dinesIn_52 : decode cX0_dinesIn 52 = .ok (.aload 4, 2) := dk_25 4 (dk_at dksX0_dinesIn_2 6 rfl rfl)
theorem dX0_dinesIn_54 : decode cX0_dinesIn 54 = .ok (.getfield 303, 3) := dk_180 1 47 (dk_at dksX0_dinesIn_2 8 rfl rfl)
theorem dX0_dinesIn_57 : decode cX0_dinesIn 57 = .ok (.irem, 1) := dk_112 (dk_at dksX0_dinesIn_2 11 rfl rfl)
theorem dX0_dinesIn_58 : decode cX0_dinesIn 58 = .ok (.isub, 1) := dk_100 (dk_at dksX0_dinesIn_2 12 rfl rfl)
theorem dX0_dinesIn_59 : decode cX0_dinesIn 59 = .ok (.istore 5, 2) := dk_54 5 (dk_at dksX0_dinesIn_2 13 rfl rfl)
theorem dX0_dinesIn_61 : decode cX0_dinesIn 61 = .ok (.aload 4, 2) := dk_25 4 (dk_at dksX0_dinesIn_2 15 rfl rfl)
theorem dX0_dinesIn_63 : decode cX0_dinesIn 63 = .ok (.iload_n 1, 1) := dk_27 (dk_at dksX0_dinesIn_2 17 rfl rfl)
theorem dX0_dinesIn_64 : decode cX0_dinesIn 64 = .ok (.invokevirtual 351, 3) := dk_182 1 95 (dk_at dksX0_dinesIn_2 18 rfl rfl)
theorem dX0_dinesIn_67 : decode cX0_dinesIn 67 = .ok (.ifCond .eq 17, 3) := dk_153 0 17 (dk_at dksX0_dinesIn_2 21 rfl rfl)
theorem dX0_dinesIn_70 : decode cX0_dinesIn 70 = .ok (.iload_n 2, 1) := dk_28 (dk_at dksX0_dinesIn_3 0 rfl rfl)
theorem dX0_dinesIn_71 : decode cX0_dinesIn 71 = .ok (.iconst (-1), 1) := dk_2 (dk_at dksX0_dinesIn_3 1 rfl rfl)
theorem dX0_dinesIn_72 : decode cX0_dinesIn 72 = .ok (.if_icmp .eq 9, 3) := dk_159 0 9 (dk_at dksX0_dinesIn_3 2 rfl rfl)
theorem dX0_dinesIn_75 : decode cX0_dinesIn 75 = .ok (.iload 5, 2) := dk_21 5 (dk_at dksX0_dinesIn_3 5 rfl rfl)
theorem dX0_dinesIn_77 : decode cX0_dinesIn 77 = .ok (.iload_n 2, 1) := dk_28 (dk_at dksX0_dinesIn_3 7 rfl rfl)
theorem dX0_dinesIn_78 : decode cX0_dinesIn 78 = .ok (.if_icmp .ge 6, 3) := dk_162 0 6 (dk_at dksX0_dinesIn_3 8 rfl rfl)
theorem dX0_dinesIn_81 : decode cX0_dinesIn 81 = .ok (.iload 5, 2) := dk_21 5 (dk_at dksX0_dinesIn_3 11 rfl rfl)
theorem dX0_dinesIn_83 : decode cX0_dinesIn 83 = .ok (.istore_n 2, 1) := dk_61 (dk_at dksX0_dinesIn_3 13 rfl rfl)
theorem dX0_dinesIn_84 : decode cX0_dinesIn 84 = .ok (.iinc 3 1, 3) := dk_132 3 1 (dk_at dksX0_dinesIn_3 14 rfl rfl)
theorem dX0_dinesIn_87 : decode cX0_dinesIn 87 = .ok (.goto (-69), 3) := dk_167 255 187 (dk_at dksX0_dinesIn_3 17 rfl rfl)
theorem dX0_dinesIn_90 : decode cX0_dinesIn 90 = .ok (.aload_n 0, 1) := dk_42 (dk_at dksX0_dinesIn_3 20 rfl rfl)
theorem dX0_dinesIn_91 : decode cX0_dinesIn 91 = .ok (.iload_n 2, 1) := dk_28 (dk_at dksX0_dinesIn_3 21 rfl rfl)
theorem dX0_dinesIn_92 : decode cX0_dinesIn 92 = .ok (.invokevirtual 309, 3) := dk_182 1 53 (dk_at dksX0_dinesIn_4 0 rfl rfl)
theorem dX0_dinesIn_95 : decode cX0_dinesIn 95 = .ok (.ireturn, 1) := dk_172 (dk_at dksX0_dinesIn_4 3 rfl rfl)
abbrev cX0_quiet : ByteArray := prog_1_method_58_code
def yX0_quiet : MethodName := ⟨RX0, "quiet", "(II)I"⟩
def dkwX0_quiet_2 : List UInt8 := [182, 0, 98, 172]
abbrev dktX0_quiet_2 : List UInt8 := dkwX0_quiet_2 ++ []
def dkwX0_quiet_1 : List UInt8 := [42, 42, 180, 0, 38, 180, 0, 211, 27, 50, 28, 182, 1, 105, 182, 0, 102, 167, 0, 8, 42, 8]
abbrev dktX0_quiet_1 : List UInt8 := dkwX0_quiet_1 ++ dktX0_quiet_2
def dkwX0_quiet_0 : List UInt8 := [42, 27, 182, 1, 8, 154, 0, 11, 42, 5, 182, 0, 98, 167, 0, 36, 28, 184, 1, 87, 153, 0, 24, 42]
abbrev dktX0_quiet_0 : List UInt8 := dkwX0_quiet_0 ++ dktX0_quiet_1
theorem dksX0_quiet_0 : cX0_quiet.data.toList.drop 0 = dktX0_quiet_0 := by decide +kernel
theorem dksX0_quiet_1 : cX0_quiet.data.toList.drop 24 = dktX0_quiet_1 := dk_seg dksX0_quiet_0 24 rfl rfl
theorem dksX0_quiet_2 : cX0_quiet.data.toList.drop 46 = dktX0_quiet_2 := dk_seg dksX0_quiet_1 22 rfl rfl
theorem dX0_quiet_0 : decode cX0_quiet 0 = .ok (.aload_n 0, 1) := dk_42 (dk_at dksX0_quiet_0 0 rfl rfl)
theorem dX0_quiet_1 : decode cX0_quiet 1 = .ok (.iload_n 1, 1) := dk_27 (dk_at dksX0_quiet_0 1 rfl rfl)
theorem dX0_quiet_2 : decode cX0_quiet 2 = .ok (.invokevirtual 264, 3) := dk_182 1 8 (dk_at dksX0_quiet_0 2 rfl rfl)
theorem dX0_quiet_5 : decode cX0_quiet 5 = .ok (.ifCond .ne 11, 3) := dk_154 0 11 (dk_at dksX0_quiet_0 5 rfl rfl)
theorem dX0_quiet_8 : decode cX0_quiet 8 = .ok (.aload_n 0, 1) := dk_42 (dk_at dksX0_quiet_0 8 rfl rfl)
theorem dX0_quiet_9 : decode cX0_quiet 9 = .ok (.iconst 2, 1) := dk_5 (dk_at dksX0_quiet_0 9 rfl rfl)
theorem dX0_quiet_10 : decode cX0_quiet 10 = .ok (.invokevirtual 98, 3) := dk_182 0 98 (dk_at dksX0_quiet_0 10 rfl rfl)
theorem dX0_quiet_13 : decode cX0_quiet 13 = .ok (.goto 36, 3) := dk_167 0 36 (dk_at dksX0_quiet_0 13 rfl rfl)
theorem dX0_quiet_16 : decode cX0_quiet 16 = .ok (.iload_n 2, 1) := dk_28 (dk_at dksX0_quiet_0 16 rfl rfl)
theorem dX0_quiet_17 : decode cX0_quiet 17 = .ok (.invokestatic 343, 3) := dk_184 1 87 (dk_at dksX0_quiet_0 17 rfl rfl)
theorem dX0_quiet_20 : decode cX0_quiet 20 = .ok (.ifCond .eq 24, 3) := dk_153 0 24 (dk_at dksX0_quiet_0 20 rfl rfl)
theorem dX0_quiet_23 : decode cX0_quiet 23 = .ok (.aload_n 0, 1) := dk_42 (dk_at dksX0_quiet_0 23 rfl rfl)
theorem dX0_quiet_24 : decode cX0_quiet 24 = .ok (.aload_n 0, 1) := dk_42 (dk_at dksX0_quiet_1 0 rfl rfl)
theorem dX0_quiet_25 : decode cX0_quiet 25 = .ok (.aload_n 0, 1) := dk_42 (dk_at dksX0_quiet_1 1 rfl rfl)
theorem dX0_quiet_26 : decode cX0_quiet 26 = .ok (.getfield 38, 3) := dk_180 0 38 (dk_at dksX0_quiet_1 2 rfl rfl)
theorem dX0_quiet_29 : decode cX0_quiet 29 = .ok (.getfield 211, 3) := dk_180 0 211 (dk_at dksX0_quiet_1 5 rfl rfl)
theorem dX0_quiet_32 : decode cX0_quiet 32 = .ok (.iload_n 1, 1) := dk_27 (dk_at dksX0_quiet_1 8 rfl rfl)
theorem dX0_quiet_33 : decode cX0_quiet 33 = .ok (.aaload, 1) := dk_50 (dk_at dksX0_quiet_1 9 rfl rfl)
theorem dX0_quiet_34 : decode cX0_quiet 34 = .ok (.iload_n 2, 1) := dk_28 (dk_at dksX0_quiet_1 10 rfl rfl)
theorem dX0_quiet_35 : decode cX0_quiet 35 = .ok (.invokevirtual 361, 3) := dk_182 1 105 (dk_at dksX0_quiet_1 11 rfl rfl)
theorem dX0_quiet_38 : decode cX0_quiet 38 = .ok (.invokevirtual 102, 3) := dk_182 0 102 (dk_at dksX0_quiet_1 14 rfl rfl)
theorem dX0_quiet_41 : decode cX0_quiet 41 = .ok (.goto 8, 3) := dk_167 0 8 (dk_at dksX0_quiet_1 17 rfl rfl)
theorem dX0_quiet_44 : decode cX0_quiet 44 = .ok (.aload_n 0, 1) := dk_42 (dk_at dksX0_quiet_1 20 rfl rfl)
theorem dX0_quiet_45 : decode cX0_quiet 45 = .ok (.iconst 5, 1) := dk_8 (dk_at dksX0_quiet_1 21 rfl rfl)
theorem dX0_quiet_46 : decode cX0_quiet 46 = .ok (.invokevirtual 98, 3) := dk_182 0 98 (dk_at dksX0_quiet_2 0 rfl rfl)
theorem dX0_quiet_49 : decode cX0_quiet 49 = .ok (.ireturn, 1) := dk_172 (dk_at dksX0_quiet_2 3 rfl rfl)
abbrev cX0_quietOf : ByteArray := prog_1_method_57_code
def yX0_quietOf : MethodName := ⟨RX0, "quietOf", "(LHairProvince$Person;I)I"⟩
def dkwX0_quietOf_4 : List UInt8 := [172]
abbrev dktX0_quietOf_4 : List UInt8 := dkwX0_quietOf_4 ++ []
def dkwX0_quietOf_3 : List UInt8 := [28, 182, 1, 101, 42, 43, 29, 28, 182, 1, 101, 164, 0, 6, 21, 4, 62, 132, 4, 1, 167, 255, 171, 29]
abbrev dktX0_quietOf_3 : List UInt8 := dkwX0_quietOf_3 ++ dktX0_quietOf_4
def dkwX0_quietOf_2 : List UInt8 := [184, 1, 70, 29, 184, 1, 70, 100, 54, 5, 21, 5, 157, 0, 26, 21, 5, 154, 0, 24, 42, 43, 21, 4]
abbrev dktX0_quietOf_2 : List UInt8 := dkwX0_quietOf_2 ++ dktX0_quietOf_3
def dkwX0_quietOf_1 : List UInt8 := [154, 0, 64, 42, 43, 21, 4, 28, 182, 1, 101, 43, 180, 1, 11, 164, 0, 6, 167, 0, 46, 21, 4]
abbrev dktX0_quietOf_1 : List UInt8 := dkwX0_quietOf_1 ++ dktX0_quietOf_2
def dkwX0_quietOf_0 : List UInt8 := [3, 62, 4, 54, 4, 21, 4, 43, 180, 1, 17, 163, 0, 82, 21, 4, 43, 180, 1, 17, 2, 130, 126]
abbrev dktX0_quietOf_0 : List UInt8 := dkwX0_quietOf_0 ++ dktX0_quietOf_1
theorem dksX0_quietOf_0 : cX0_quietOf.data.toList.drop 0 = dktX0_quietOf_0 := by decide +kernel
theorem dksX0_quietOf_1 : cX0_quietOf.data.toList.drop 23 = dktX0_quietOf_1 := dk_seg dksX0_quietOf_0 23 rfl rfl
theorem dksX0_quietOf_2 : cX0_quietOf.data.toList.drop 46 = dktX0_quietOf_2 := dk_seg dksX0_quietOf_1 23 rfl rfl
theorem dksX0_quietOf_3 : cX0_quietOf.data.toList.drop 70 = dktX0_quietOf_3 := dk_seg dksX0_quietOf_2 24 rfl rfl
theorem dksX0_quietOf_4 : cX0_quietOf.data.toList.drop 94 = dktX0_quietOf_4 := dk_seg dksX0_quietOf_3 24 rfl rfl
theorem dX0_quietOf_0 : decode cX0_quietOf 0 = .ok (.iconst 0, 1) := dk_3 (dk_at dksX0_quietOf_0 0 rfl rfl)
theorem dX0_quietOf_1 : decode cX0_quietOf 1 = .ok (.istore_n 3, 1) := dk_62 (dk_at dksX0_quietOf_0 1 rfl rfl)
theorem dX0_quietOf_2 : decode cX0_quietOf 2 = .ok (.iconst 1, 1) := dk_4 (dk_at dksX0_quietOf_0 2 rfl rfl)
theorem dX0_quietOf_3 : decode cX0_quietOf 3 = .ok (.istore 4, 2) := dk_54 4 (dk_at dksX0_quietOf_0 3 rfl rfl)
theorem dX0_quietOf_5 : decode cX0_quietOf 5 = .ok (.iload 4, 2) := dk_21 4 (dk_at dksX0_quietOf_0 5 rfl rfl)
theorem dX0_quietOf_7 : decode cX0_quietOf 7 = .ok (.aload_n 1, 1) := dk_43 (dk_at dksX0_quietOf_0 7 rfl rfl)
theorem dX0_quietOf_8 : decode cX0_quietOf 8 = .ok (.getfield 273, 3) := dk_180 1 17 (dk_at dksX0_quietOf_0 8 rfl rfl)
theorem dX0_quietOf_11 : decode cX0_quietOf 11 = .ok (.if_icmp .gt 82, 3) := dk_163 0 82 (dk_at dksX0_quietOf_0 11 rfl rfl)
theorem dX0_quietOf_14 : decode cX0_quietOf 14 = .ok (.iload 4, 2) := dk_21 4 (dk_at dksX0_quietOf_0 14 rfl rfl)
theorem dX0_quietOf_16 : decode cX0_quietOf 16 = .ok (.aload_n 1, 1) := dk_43 (dk_at dksX0_quietOf_0 16 rfl rfl)
theorem dX0_quietOf_17 : decode cX0_quietOf 17 = .ok (.getfield 273, 3) := dk_180 1 17 (dk_at dksX0_quietOf_0 17 rfl rfl)
theorem dX0_quietOf_20 : decode cX0_quietOf 20 = .ok (.iconst (-1), 1) := dk_2 (dk_at dksX0_quietOf_0 20 rfl rfl)
theorem dX0_quietOf_21 : decode cX0_quietOf 21 = .ok (.ixor, 1) := dk_130 (dk_at dksX0_quietOf_0 21 rfl rfl)
theorem dX0_quietOf_22 : decode cX0_quietOf 22 = .ok (.iand, 1) := dk_126 (dk_at dksX0_quietOf_0 22 rfl rfl)
theorem dX0_quietOf_23 : decode cX0_quietOf 23 = .ok (.ifCond .ne 64, 3) := dk_154 0 64 (dk_at dksX0_quietOf_1 0 rfl rfl)
theorem dX0_quietOf_26 : decode cX0_quietOf 26 = .ok (.aload_n 0, 1) := dk_42 (dk_at dksX0_quietOf_1 3 rfl rfl)
theorem dX0_quietOf_27 : decode cX0_quietOf 27 = .ok (.aload_n 1, 1) := dk_43 (dk_at dksX0_quietOf_1 4 rfl rfl)
theorem dX0_quietOf_28 : decode cX0_quietOf 28 = .ok (.iload 4, 2) := dk_21 4 (dk_at dksX0_quietOf_1 5 rfl rfl)
theorem dX0_quietOf_30 : decode cX0_quietOf 30 = .ok (.iload_n 2, 1) := dk_28 (dk_at dksX0_quietOf_1 7 rfl rfl)
theorem dX0_quietOf_31 : decode cX0_quietOf 31 = .ok (.invokevirtual 357, 3) := dk_182 1 101 (dk_at dksX0_quietOf_1 8 rfl rfl)
theorem dX0_quietOf_34 : decode cX0_quietOf 34 = .ok (.aload_n 1, 1) := dk_43 (dk_at dksX0_quietOf_1 11 rfl rfl)
theorem dX0_quietOf_35 : decode cX0_quietOf 35 = .ok (.getfield 267, 3) := dk_180 1 11 (dk_at dksX0_quietOf_1 12 rfl rfl)
theorem dX0_quietOf_38 : decode cX0_quietOf 38 = .ok (.if_icmp .le 6, 3) := dk_164 0 6 (dk_at dksX0_quietOf_1 15 rfl rfl)
theorem dX0_quietOf_41 : decode cX0_quietOf 41 = .ok (.goto 46, 3) := dk_167 0 46 (dk_at dksX0_quietOf_1 18 rfl rfl)
theorem dX0_quietOf_44 : decode cX0_quietOf 44 = .ok (.iload 4, 2) := dk_21 4 (dk_at dksX0_quietOf_1 21 rfl rfl)
theorem dX0_quietOf_46 : decode cX0_quietOf 46 = .ok (.invokestatic 326, 3) := dk_184 1 70 (dk_at dksX0_quietOf_2 0 rfl rfl)
theorem dX0_quietOf_49 : decode cX0_quietOf 49 = .ok (.iload_n 3, 1) := dk_29 (dk_at dksX0_quietOf_2 3 rfl rfl)
theorem dX0_quietOf_50 : decode cX0_quietOf 50 = .ok (.invokestatic 326, 3) := dk_184 1 70 (dk_at dksX0_quietOf_2 4 rfl rfl)
theorem dX0_quietOf_53 : decode cX0_quietOf 53 = .ok (.isub, 1) := dk_100 (dk_at dksX0_quietOf_2 7 rfl rfl)
theorem dX0_quietOf_54 : decode cX0_quietOf 54 = .ok (.istore 5, 2) := dk_54 5 (dk_at dksX0_quietOf_2 8 rfl rfl)
theorem dX0_quietOf_56 : decode cX0_quietOf 56 = .ok (.iload 5, 2) := dk_21 5 (dk_at dksX0_quietOf_2 10 rfl rfl)
theorem dX0_quietOf_58 : decode cX0_quietOf 58 = .ok (.ifCond .gt 26, 3) := dk_157 0 26 (dk_at dksX0_quietOf_2 12 rfl rfl)
theorem dX0_quietOf_61 : decode cX0_quietOf 61 = .ok (.iload 5, 2) := dk_21 5 (dk_at dksX0_quietOf_2 15 rfl rfl)
theorem dX0_quietOf_63 : decode cX0_quietOf 63 = .ok (.ifCond .ne 24, 3) := dk_154 0 24 (dk_at dksX0_quietOf_2 17 rfl rfl)
theorem dX0_quietOf_66 : decode cX0_quietOf 66 = .ok (.aload_n 0, 1) := dk_42 (dk_at dksX0_quietOf_2 20 rfl rfl)
theorem dX0_quietOf_67 : decode cX0_quietOf 67 = .ok (.aload_n 1, 1) := dk_43 (dk_at dksX0_quietOf_2 21 rfl rfl)
theorem dX0_quietOf_68 : decode cX0_quietOf 68 = .ok (.iload 4, 2) := dk_21 4 (dk_at dksX0_quietOf_2 22 rfl rfl)
theorem dX0_quietOf_70 : decode cX0_quietOf 70 = .ok (.iload_n 2, 1) := dk_28 (dk_at dksX0_quietOf_3 0 rfl rfl)
theorem dX0_quietOf_71 : decode cX0_quietOf 71 = .ok (.invokevirtual 357, 3) := dk_182 1 101 (dk_at dksX0_quietOf_3 1 rfl rfl)
theorem dX0_quietOf_74 : decode cX0_quietOf 74 = .ok (.aload_n 0, 1) := dk_42 (dk_at dksX0_quietOf_3 4 rfl rfl)
theorem dX0_quietOf_75 : decode cX0_quietOf 75 = .ok (.aload_n 1, 1) := dk_43 (dk_at dksX0_quietOf_3 5 rfl rfl)
theorem dX0_quietOf_76 : decode cX0_quietOf 76 = .ok (.iload_n 3, 1) := dk_29 (dk_at dksX0_quietOf_3 6 rfl rfl)
theorem dX0_quietOf_77 : decode cX0_quietOf 77 = .ok (.iload_n 2, 1) := dk_28 (dk_at dksX0_quietOf_3 7 rfl rfl)
theorem dX0_quietOf_78 : decode cX0_quietOf 78 = .ok (.invokevirtual 357, 3) := dk_182 1 101 (dk_at dksX0_quietOf_3 8 rfl rfl)
theorem dX0_quietOf_81 : decode cX0_quietOf 81 = .ok (.if_icmp .le 6, 3) := dk_164 0 6 (dk_at dksX0_quietOf_3 11 rfl rfl)
theorem dX0_quietOf_84 : decode cX0_quietOf 84 = .ok (.iload 4, 2) := dk_21 4 (dk_at dksX0_quietOf_3 14 rfl rfl)
theorem dX0_quietOf_86 : decode cX0_quietOf 86 = .ok (.istore_n 3, 1) := dk_62 (dk_at dksX0_quietOf_3 16 rfl rfl)
theorem dX0_quietOf_87 : decode cX0_quietOf 87 = .ok (.iinc 4 1, 3) := dk_132 4 1 (dk_at dksX0_quietOf_3 17 rfl rfl)
theorem dX0_quietOf_90 : decode cX0_quietOf 90 = .ok (.goto (-85), 3) := dk_167 255 171 (dk_at dksX0_quietOf_3 20 rfl rfl)
theorem dX0_quietOf_93 : decode cX0_quietOf 93 = .ok (.iload_n 3, 1) := dk_29 (dk_at dksX0_quietOf_3 23 rfl rfl)
theorem dX0_quietOf_94 : decode cX0_quietOf 94 = .ok (.ireturn, 1) := dk_172 (dk_at dksX0_quietOf_4 0 rfl rfl)
abbrev cX0_hairOf : ByteArray := prog_1_method_56_code
def yX0_hairOf : MethodName := ⟨RX0, "hairOf", "(LHairProvince$Person;II)I"⟩
def dkwX0_hairOf_3 : List UInt8 := [21, 4, 172]
abbrev dktX0_hairOf_3 : List UInt8 := dkwX0_hairOf_3 ++ []
def dkwX0_hairOf_2 : List UInt8 := [180, 1, 29, 21, 5, 46, 29, 182, 1, 98, 96, 167, 0, 4, 3, 96, 54, 4, 132, 5, 1, 167, 255, 194]
abbrev dktX0_hairOf_2 : List UInt8 := dkwX0_hairOf_2 ++ dktX0_hairOf_3
def dkwX0_hairOf_1 : List UInt8 := [184, 1, 23, 153, 0, 35, 43, 180, 1, 26, 21, 5, 46, 42, 180, 0, 38, 180, 0, 245, 21, 5, 50, 43]
abbrev dktX0_hairOf_1 : List UInt8 := dkwX0_hairOf_1 ++ dktX0_hairOf_2
def dkwX0_hairOf_0 : List UInt8 := [3, 54, 4, 3, 54, 5, 21, 5, 42, 180, 0, 38, 180, 0, 147, 162, 0, 56, 21, 4, 28, 21, 5]
abbrev dktX0_hairOf_0 : List UInt8 := dkwX0_hairOf_0 ++ dktX0_hairOf_1
theorem dksX0_hairOf_0 : cX0_hairOf.data.toList.drop 0 = dktX0_hairOf_0 := by decide +kernel
theorem dksX0_hairOf_1 : cX0_hairOf.data.toList.drop 23 = dktX0_hairOf_1 := dk_seg dksX0_hairOf_0 23 rfl rfl
theorem dksX0_hairOf_2 : cX0_hairOf.data.toList.drop 47 = dktX0_hairOf_2 := dk_seg dksX0_hairOf_1 24 rfl rfl
theorem dksX0_hairOf_3 : cX0_hairOf.data.toList.drop 71 = dktX0_hairOf_3 := dk_seg dksX0_hairOf_2 24 rfl rfl
theorem dX0_hairOf_0 : decode cX0_hairOf 0 = .ok (.iconst 0, 1) := dk_3 (dk_at dksX0_hairOf_0 0 rfl rfl)
theorem dX0_hairOf_1 : decode cX0_hairOf 1 = .ok (.istore 4, 2) := dk_54 4 (dk_at dksX0_hairOf_0 1 rfl rfl)
theorem dX0_hairOf_3 : decode cX0_hairOf 3 = .ok (.iconst 0, 1) := dk_3 (dk_at dksX0_hairOf_0 3 rfl rfl)
theorem dX0_hairOf_4 : decode cX0_hairOf 4 = .ok (.istore 5, 2) := dk_54 5 (dk_at dksX0_hairOf_0 4 rfl rfl)
theorem dX0_hairOf_6 : decode cX0_hairOf 6 = .ok (.iload 5, 2) := dk_21 5 (dk_at dksX0_hairOf_0 6 rfl rfl)
theorem dX0_hairOf_8 : decode cX0_hairOf 8 = .ok (.aload_n 0, 1) := dk_42 (dk_at dksX0_hairOf_0 8 rfl rfl)
theorem dX0_hairOf_9 : decode cX0_hairOf 9 = .ok (.getfield 38, 3) := dk_180 0 38 (dk_at dksX0_hairOf_0 9 rfl rfl)
theorem dX0_hairOf_12 : decode cX0_hairOf 12 = .ok (.getfield 147, 3) := dk_180 0 147 (dk_at dksX0_hairOf_0 12 rfl rfl)
theorem dX0_hairOf_15 : decode cX0_hairOf 15 = .ok (.if_icmp .ge 56, 3) := dk_162 0 56 (dk_at dksX0_hairOf_0 15 rfl rfl)
theorem dX0_hairOf_18 : decode cX0_hairOf 18 = .ok (.iload 4, 2) := dk_21 4 (dk_at dksX0_hairOf_0 18 rfl rfl)
theorem dX0_hairOf_20 : decode cX0_hairOf 20 = .ok (.iload_n 2, 1) := dk_28 (dk_at dksX0_hairOf_0 20 rfl rfl)
theorem dX0_hairOf_21 : decode cX0_hairOf 21 = .ok (.iload 5, 2) := dk_21 5 (dk_at dksX0_hairOf_0 21 rfl rfl)
theorem dX0_hairOf_23 : decode cX0_hairOf 23 = .ok (.invokestatic 279, 3) := dk_184 1 23 (dk_at dksX0_hairOf_1 0 rfl rfl)
theorem dX0_hairOf_26 : decode cX0_hairOf 26 = .ok (.ifCond .eq 35, 3) := dk_153 0 35 (dk_at dksX0_hairOf_1 3 rfl rfl)
theorem dX0_hairOf_29 : decode cX0_hairOf 29 = .ok (.aload_n 1, 1) := dk_43 (dk_at dksX0_hairOf_1 6 rfl rfl)
theorem dX0_hairOf_30 : decode cX0_hairOf 30 = .ok (.getfield 282, 3) := dk_180 1 26 (dk_at dksX0_hairOf_1 7 rfl rfl)
theorem dX0_hairOf_33 : decode cX0_hairOf 33 = .ok (.iload 5, 2) := dk_21 5 (dk_at dksX0_hairOf_1 10 rfl rfl)
theorem dX0_hairOf_35 : decode cX0_hairOf 35 = .ok (.iaload, 1) := dk_46 (dk_at dksX0_hairOf_1 12 rfl rfl)
theorem dX0_hairOf_36 : decode cX0_hairOf 36 = .ok (.aload_n 0, 1) := dk_42 (dk_at dksX0_hairOf_1 13 rfl rfl)
theorem dX0_hairOf_37 : decode cX0_hairOf 37 = .ok (.getfield 38, 3) := dk_180 0 38 (dk_at dksX0_hairOf_1 14 rfl rfl)
theorem dX0_hairOf_40 : decode cX0_hairOf 40 = .ok (.getfield 245, 3) := dk_180 0 245 (dk_at dksX0_hairOf_1 17 rfl rfl)
theorem dX0_hairOf_43 : decode cX0_hairOf 43 = .ok (.iload 5, 2) := dk_21 5 (dk_at dksX0_hairOf_1 20 rfl rfl)
theorem dX0_hairOf_45 : decode cX0_hairOf 45 = .ok (.aaload, 1) := dk_50 (dk_at dksX0_hairOf_1 22 rfl rfl)
theorem dX0_hairOf_46 : decode cX0_hairOf 46 = .ok (.aload_n 1, 1) := dk_43 (dk_at dksX0_hairOf_1 23 rfl rfl)
theorem dX0_hairOf_47 : decode cX0_hairOf 47 = .ok (.getfield 285, 3) := dk_180 1 29 (dk_at dksX0_hairOf_2 0 rfl rfl)
theorem dX0_hairOf_50 : decode cX0_hairOf 50 = .ok (.iload 5, 2) := dk_21 5 (dk_at dksX0_hairOf_2 3 rfl rfl)
theorem dX0_hairOf_52 : decode cX0_hairOf 52 = .ok (.iaload, 1) := dk_46 (dk_at dksX0_hairOf_2 5 rfl rfl)
theorem dX0_hairOf_53 : decode cX0_hairOf 53 = .ok (.iload_n 3, 1) := dk_29 (dk_at dksX0_hairOf_2 6 rfl rfl)
theorem dX0_hairOf_54 : decode cX0_hairOf 54 = .ok (.invokevirtual 354, 3) := dk_182 1 98 (dk_at dksX0_hairOf_2 7 rfl rfl)
theorem dX0_hairOf_57 : decode cX0_hairOf 57 = .ok (.iadd, 1) := dk_96 (dk_at dksX0_hairOf_2 10 rfl rfl)
theorem dX0_hairOf_58 : decode cX0_hairOf 58 = .ok (.goto 4, 3) := dk_167 0 4 (dk_at dksX0_hairOf_2 11 rfl rfl)
theorem dX0_hairOf_61 : decode cX0_hairOf 61 = .ok (.iconst 0, 1) := dk_3 (dk_at dksX0_hairOf_2 14 rfl rfl)
theorem dX0_hairOf_62 : decode cX0_hairOf 62 = .ok (.iadd, 1) := dk_96 (dk_at dksX0_hairOf_2 15 rfl rfl)
theorem dX0_hairOf_63 : decode cX0_hairOf 63 = .ok (.istore 4, 2) := dk_54 4 (dk_at dksX0_hairOf_2 16 rfl rfl)
theorem dX0_hairOf_65 : decode cX0_hairOf 65 = .ok (.iinc 5 1, 3) := dk_132 5 1 (dk_at dksX0_hairOf_2 18 rfl rfl)
theorem dX0_hairOf_68 : decode cX0_hairOf 68 = .ok (.goto (-62), 3) := dk_167 255 194 (dk_at dksX0_hairOf_2 21 rfl rfl)
theorem dX0_hairOf_71 : decode cX0_hairOf 71 = .ok (.iload 4, 2) := dk_21 4 (dk_at dksX0_hairOf_3 0 rfl rfl)
theorem dX0_hairOf_73 : decode cX0_hairOf 73 = .ok (.ireturn, 1) := dk_172 (dk_at dksX0_hairOf_3 2 rfl rfl)
abbrev cX0_quietHair : ByteArray := prog_1_method_59_code
def yX0_quietHair : MethodName := ⟨RX0, "quietHair", "(II)I"⟩
def dkwX0_quietHair_2 : List UInt8 := [182, 1, 101, 182, 0, 102, 172]
abbrev dktX0_quietHair_2 : List UInt8 := dkwX0_quietHair_2 ++ []
def dkwX0_quietHair_1 : List UInt8 := [182, 0, 98, 172, 42, 180, 0, 38, 180, 0, 211, 27, 50, 78, 42, 42, 45, 42, 45, 28, 182, 1, 105, 28]
abbrev dktX0_quietHair_1 : List UInt8 := dkwX0_quietHair_1 ++ dktX0_quietHair_2
def dkwX0_quietHair_0 : List UInt8 := [42, 27, 182, 1, 8, 154, 0, 9, 42, 5, 182, 0, 98, 172, 28, 184, 1, 87, 154, 0, 9, 42, 8]
abbrev dktX0_quietHair_0 : List UInt8 := dkwX0_quietHair_0 ++ dktX0_quietHair_1
theorem dksX0_quietHair_0 : cX0_quietHair.data.toList.drop 0 = dktX0_quietHair_0 := by decide +kernel
theorem dksX0_quietHair_1 : cX0_quietHair.data.toList.drop 23 = dktX0_quietHair_1 := dk_seg dksX0_quietHair_0 23 rfl rfl
theorem dksX0_quietHair_2 : cX0_quietHair.data.toList.drop 47 = dktX0_quietHair_2 := dk_seg dksX0_quietHair_1 24 rfl rfl
theorem dX0_quietHair_0 : decode cX0_quietHair 0 = .ok (.aload_n 0, 1) := dk_42 (dk_at dksX0_quietHair_0 0 rfl rfl)
theorem dX0_quietHair_1 : decode cX0_quietHair 1 = .ok (.iload_n 1, 1) := dk_27 (dk_at dksX0_quietHair_0 1 rfl rfl)
theorem dX0_quietHair_2 : decode cX0_quietHair 2 = .ok (.invokevirtual 264, 3) := dk_182 1 8 (dk_at dksX0_quietHair_0 2 rfl rfl)
theorem dX0_quietHair_5 : decode cX0_quietHair 5 = .ok (.ifCond .ne 9, 3) := dk_154 0 9 (dk_at dksX0_quietHair_0 5 rfl rfl)
theorem dX0_quietHair_8 : decode cX0_quietHair 8 = .ok (.aload_n 0, 1) := dk_42 (dk_at dksX0_quietHair_0 8 rfl rfl)
theorem dX0_quietHair_9 : decode cX0_quietHair 9 = .ok (.iconst 2, 1) := dk_5 (dk_at dksX0_quietHair_0 9 rfl rfl)
theorem dX0_quietHair_10 : decode cX0_quietHair 10 = .ok (.invokevirtual 98, 3) := dk_182 0 98 (dk_at dksX0_quietHair_0 10 rfl rfl)
theorem dX0_quietHair_13 : decode cX0_quietHair 13 = .ok (.ireturn, 1) := dk_172 (dk_at dksX0_quietHair_0 13 rfl rfl)
theorem dX0_quietHair_14 : decode cX0_quietHair 14 = .ok (.iload_n 2, 1) := dk_28 (dk_at dksX0_quietHair_0 14 rfl rfl)
theorem dX0_quietHair_15 : decode cX0_quietHair 15 = .ok (.invokestatic 343, 3) := dk_184 1 87 (dk_at dksX0_quietHair_0 15 rfl rfl)
theorem dX0_quietHair_18 : decode cX0_quietHair 18 = .ok (.ifCond .ne 9, 3) := dk_154 0 9 (dk_at dksX0_quietHair_0 18 rfl rfl)
theorem dX0_quietHair_21 : decode cX0_quietHair 21 = .ok (.aload_n 0, 1) := dk_42 (dk_at dksX0_quietHair_0 21 rfl rfl)
theorem dX0_quietHair_22 : decode cX0_quietHair 22 = .ok (.iconst 5, 1) := dk_8 (dk_at dksX0_quietHair_0 22 rfl rfl)
theorem dX0_quietHair_23 : decode cX0_quietHair 23 = .ok (.invokevirtual 98, 3) := dk_182 0 98 (dk_at dksX0_quietHair_1 0 rfl rfl)
theorem dX0_quietHair_26 : decode cX0_quietHair 26 = .ok (.ireturn, 1) := dk_172 (dk_at dksX0_quietHair_1 3 rfl rfl)
theorem dX0_quietHair_27 : decode cX0_quietHair 27 = .ok (.aload_n 0, 1) := dk_42 (dk_at dksX0_quietHair_1 4 rfl rfl)
theorem dX0_quietHair_28 : decode cX0_quietHair 28 = .ok (.getfield 38, 3) := dk_180 0 38 (dk_at dksX0_quietHair_1 5 rfl rfl)
theorem dX0_quietHair_31 : decode cX0_quietHair 31 = .ok (.getfield 211, 3) := dk_180 0 211 (dk_at dksX0_quietHair_1 8 rfl rfl)
theorem dX0_quietHair_34 : decode cX0_quietHair 34 = .ok (.iload_n 1, 1) := dk_27 (dk_at dksX0_quietHair_1 11 rfl rfl)
theorem dX0_quietHair_35 : decode cX0_quietHair 35 = .ok (.aaload, 1) := dk_50 (dk_at dksX0_quietHair_1 12 rfl rfl)
theorem dX0_quietHair_36 : decode cX0_quietHair 36 = .ok (.astore_n 3, 1) := dk_78 (dk_at dksX0_quietHair_1 13 rfl rfl)
theorem dX0_quietHair_37 : decode cX0_quietHair 37 = .ok (.aload_n 0, 1) := dk_42 (dk_at dksX0_quietHair_1 14 rfl rfl)
theorem dX0_quietHair_38 : decode cX0_quietHair 38 = .ok (.aload_n 0, 1) := dk_42 (dk_at dksX0_quietHair_1 15 rfl rfl)
theorem dX0_quietHair_39 : decode cX0_quietHair 39 = .ok (.aload_n 3, 1) := dk_45 (dk_at dksX0_quietHair_1 16 rfl rfl)
theorem dX0_quietHair_40 : decode cX0_quietHair 40 = .ok (.aload_n 0, 1) := dk_42 (dk_at dksX0_quietHair_1 17 rfl rfl)
theorem dX0_quietHair_41 : decode cX0_quietHair 41 = .ok (.aload_n 3, 1) := dk_45 (dk_at dksX0_quietHair_1 18 rfl rfl)
theorem dX0_quietHair_42 : decode cX0_quietHair 42 = .ok (.iload_n 2, 1) := dk_28 (dk_at dksX0_quietHair_1 19 rfl rfl)
theorem dX0_quietHair_43 : decode cX0_quietHair 43 = .ok (.invokevirtual 361, 3) := dk_182 1 105 (dk_at dksX0_quietHair_1 20 rfl rfl)
theorem dX0_quietHair_46 : decode cX0_quietHair 46 = .ok (.iload_n 2, 1) := dk_28 (dk_at dksX0_quietHair_1 23 rfl rfl)
theorem dX0_quietHair_47 : decode cX0_quietHair 47 = .ok (.invokevirtual 357, 3) := dk_182 1 101 (dk_at dksX0_quietHair_2 0 rfl rfl)
theorem dX0_quietHair_50 : decode cX0_quietHair 50 = .ok (.invokevirtual 102, 3) := dk_182 0 102 (dk_at dksX0_quietHair_2 3 rfl rfl)
theorem dX0_quietHair_53 : decode cX0_quietHair 53 = .ok (.ireturn, 1) := dk_172 (dk_at dksX0_quietHair_2 6 rfl rfl)
abbrev cX0_unsaid : ByteArray := prog_1_method_65_code
def yX0_unsaid : MethodName := ⟨RX0, "unsaid", "(II)I"⟩
def dkwX0_unsaid_1 : List UInt8 := [182, 1, 131, 182, 0, 102, 172]
abbrev dktX0_unsaid_1 : List UInt8 := dkwX0_unsaid_1 ++ []
def dkwX0_unsaid_0 : List UInt8 := [42, 27, 28, 182, 1, 128, 62, 29, 158, 0, 11, 42, 29, 182, 0, 98, 167, 0, 13, 42, 42, 27, 28]
abbrev dktX0_unsaid_0 : List UInt8 := dkwX0_unsaid_0 ++ dktX0_unsaid_1
theorem dksX0_unsaid_0 : cX0_unsaid.data.toList.drop 0 = dktX0_unsaid_0 := by decide +kernel
theorem dksX0_unsaid_1 : cX0_unsaid.data.toList.drop 23 = dktX0_unsaid_1 := dk_seg dksX0_unsaid_0 23 rfl rfl
theorem dX0_unsaid_0 : decode cX0_unsaid 0 = .ok (.aload_n 0, 1) := dk_42 (dk_at dksX0_unsaid_0 0 rfl rfl)
theorem dX0_unsaid_1 : decode cX0_unsaid 1 = .ok (.iload_n 1, 1) := dk_27 (dk_at dksX0_unsaid_0 1 rfl rfl)
theorem dX0_unsaid_2 : decode cX0_unsaid 2 = .ok (.iload_n 2, 1) := dk_28 (dk_at dksX0_unsaid_0 2 rfl rfl)
theorem dX0_unsaid_3 : decode cX0_unsaid 3 = .ok (.invokevirtual 384, 3) := dk_182 1 128 (dk_at dksX0_unsaid_0 3 rfl rfl)
theorem dX0_unsaid_6 : decode cX0_unsaid 6 = .ok (.istore_n 3, 1) := dk_62 (dk_at dksX0_unsaid_0 6 rfl rfl)
theorem dX0_unsaid_7 : decode cX0_unsaid 7 = .ok (.iload_n 3, 1) := dk_29 (dk_at dksX0_unsaid_0 7 rfl rfl)
theorem dX0_unsaid_8 : decode cX0_unsaid 8 = .ok (.ifCond .le 11, 3) := dk_158 0 11 (dk_at dksX0_unsaid_0 8 rfl rfl)
theorem dX0_unsaid_11 : decode cX0_unsaid 11 = .ok (.aload_n 0, 1) := dk_42 (dk_at dksX0_unsaid_0 11 rfl rfl)
theorem dX0_unsaid_12 : decode cX0_unsaid 12 = .ok (.iload_n 3, 1) := dk_29 (dk_at dksX0_unsaid_0 12 rfl rfl)
theorem dX0_unsaid_13 : decode cX0_unsaid 13 = .ok (.invokevirtual 98, 3) := dk_182 0 98 (dk_at dksX0_unsaid_0 13 rfl rfl)
theorem dX0_unsaid_16 : decode cX0_unsaid 16 = .ok (.goto 13, 3) := dk_167 0 13 (dk_at dksX0_unsaid_0 16 rfl rfl)
theorem dX0_unsaid_19 : decode cX0_unsaid 19 = .ok (.aload_n 0, 1) := dk_42 (dk_at dksX0_unsaid_0 19 rfl rfl)
theorem dX0_unsaid_20 : decode cX0_unsaid 20 = .ok (.aload_n 0, 1) := dk_42 (dk_at dksX0_unsaid_0 20 rfl rfl)
theorem dX0_unsaid_21 : decode cX0_unsaid 21 = .ok (.iload_n 1, 1) := dk_27 (dk_at dksX0_unsaid_0 21 rfl rfl)
theorem dX0_unsaid_22 : decode cX0_unsaid 22 = .ok (.iload_n 2, 1) := dk_28 (dk_at dksX0_unsaid_0 22 rfl rfl)
theorem dX0_unsaid_23 : decode cX0_unsaid 23 = .ok (.invokevirtual 387, 3) := dk_182 1 131 (dk_at dksX0_unsaid_1 0 rfl rfl)
theorem dX0_unsaid_26 : decode cX0_unsaid 26 = .ok (.invokevirtual 102, 3) := dk_182 0 102 (dk_at dksX0_unsaid_1 3 rfl rfl)
theorem dX0_unsaid_29 : decode cX0_unsaid 29 = .ok (.ireturn, 1) := dk_172 (dk_at dksX0_unsaid_1 6 rfl rfl)
abbrev cX0_wrongUnsaid : ByteArray := prog_1_method_62_code
def yX0_wrongUnsaid : MethodName := ⟨RX0, "wrongUnsaid", "(II)I"⟩
def dkwX0_wrongUnsaid_0 : List UInt8 := [42, 27, 28, 17, 3, 231, 20, 1, 116, 182, 1, 118, 172]
abbrev dktX0_wrongUnsaid_0 : List UInt8 := dkwX0_wrongUnsaid_0 ++ []
theorem dksX0_wrongUnsaid_0 : cX0_wrongUnsaid.data.toList.drop 0 = dktX0_wrongUnsaid_0 := by decide +kernel
theorem dX0_wrongUnsaid_0 : decode cX0_wrongUnsaid 0 = .ok (.aload_n 0, 1) := dk_42 (dk_at dksX0_wrongUnsaid_0 0 rfl rfl)
theorem dX0_wrongUnsaid_1 : decode cX0_wrongUnsaid 1 = .ok (.iload_n 1, 1) := dk_27 (dk_at dksX0_wrongUnsaid_0 1 rfl rfl)
theorem dX0_wrongUnsaid_2 : decode cX0_wrongUnsaid 2 = .ok (.iload_n 2, 1) := dk_28 (dk_at dksX0_wrongUnsaid_0 2 rfl rfl)
theorem dX0_wrongUnsaid_3 : decode cX0_wrongUnsaid 3 = .ok (.sipush 999, 3) := dk_17 3 231 (dk_at dksX0_wrongUnsaid_0 3 rfl rfl)
theorem dX0_wrongUnsaid_6 : decode cX0_wrongUnsaid 6 = .ok (.ldc2_w 372, 3) := dk_20 1 116 (dk_at dksX0_wrongUnsaid_0 6 rfl rfl)
theorem dX0_wrongUnsaid_9 : decode cX0_wrongUnsaid 9 = .ok (.invokevirtual 374, 3) := dk_182 1 118 (dk_at dksX0_wrongUnsaid_0 9 rfl rfl)
theorem dX0_wrongUnsaid_12 : decode cX0_wrongUnsaid 12 = .ok (.ireturn, 1) := dk_172 (dk_at dksX0_wrongUnsaid_0 12 rfl rfl)
abbrev cX0_wrongTwos : ByteArray := prog_1_method_61_code
def yX0_wrongTwos : MethodName := ⟨RX0, "wrongTwos", "(IIIJ)I"⟩
def dkwX0_wrongTwos_4 : List UInt8 := [182, 0, 126, 9, 22, 4, 184, 0, 162, 154, 0, 5, 8, 172, 132, 7, 1, 167, 255, 207, 3, 172]
abbrev dktX0_wrongTwos_4 : List UInt8 := dkwX0_wrongTwos_4 ++ []
def dkwX0_wrongTwos_3 : List UInt8 := [5, 21, 7, 104, 182, 0, 126, 9, 29, 133, 184, 0, 162, 153, 0, 23, 25, 6, 5, 21, 7, 104, 4, 96]
abbrev dktX0_wrongTwos_3 : List UInt8 := dkwX0_wrongTwos_3 ++ dktX0_wrongTwos_4
def dkwX0_wrongTwos_2 : List UInt8 := [133, 9, 20, 1, 114, 184, 0, 162, 154, 0, 5, 8, 172, 3, 54, 7, 21, 7, 28, 162, 0, 49, 25, 6]
abbrev dktX0_wrongTwos_2 : List UInt8 := dkwX0_wrongTwos_2 ++ dktX0_wrongTwos_3
def dkwX0_wrongTwos_1 : List UInt8 := [199, 0, 5, 6, 172, 25, 6, 182, 1, 56, 133, 20, 1, 112, 28, 133, 105, 148, 156, 0, 5, 7, 172, 28]
abbrev dktX0_wrongTwos_1 : List UInt8 := dkwX0_wrongTwos_1 ++ dktX0_wrongTwos_2
def dkwX0_wrongTwos_0 : List UInt8 := [27, 184, 0, 109, 154, 0, 5, 4, 172, 42, 180, 0, 11, 27, 50, 58, 6, 25, 6, 180, 0, 132]
abbrev dktX0_wrongTwos_0 : List UInt8 := dkwX0_wrongTwos_0 ++ dktX0_wrongTwos_1
theorem dksX0_wrongTwos_0 : cX0_wrongTwos.data.toList.drop 0 = dktX0_wrongTwos_0 := by decide +kernel
theorem dksX0_wrongTwos_1 : cX0_wrongTwos.data.toList.drop 22 = dktX0_wrongTwos_1 := dk_seg dksX0_wrongTwos_0 22 rfl rfl
theorem dksX0_wrongTwos_2 : cX0_wrongTwos.data.toList.drop 46 = dktX0_wrongTwos_2 := dk_seg dksX0_wrongTwos_1 24 rfl rfl
theorem dksX0_wrongTwos_3 : cX0_wrongTwos.data.toList.drop 70 = dktX0_wrongTwos_3 := dk_seg dksX0_wrongTwos_2 24 rfl rfl
theorem dksX0_wrongTwos_4 : cX0_wrongTwos.data.toList.drop 94 = dktX0_wrongTwos_4 := dk_seg dksX0_wrongTwos_3 24 rfl rfl
theorem dX0_wrongTwos_0 : decode cX0_wrongTwos 0 = .ok (.iload_n 1, 1) := dk_27 (dk_at dksX0_wrongTwos_0 0 rfl rfl)
theorem dX0_wrongTwos_1 : decode cX0_wrongTwos 1 = .ok (.invokestatic 109, 3) := dk_184 0 109 (dk_at dksX0_wrongTwos_0 1 rfl rfl)
theorem dX0_wrongTwos_4 : decode cX0_wrongTwos 4 = .ok (.ifCond .ne 5, 3) := dk_154 0 5 (dk_at dksX0_wrongTwos_0 4 rfl rfl)
theorem dX0_wrongTwos_7 : decode cX0_wrongTwos 7 = .ok (.iconst 1, 1) := dk_4 (dk_at dksX0_wrongTwos_0 7 rfl rfl)
theorem dX0_wrongTwos_8 : decode cX0_wrongTwos 8 = .ok (.ireturn, 1) := dk_172 (dk_at dksX0_wrongTwos_0 8 rfl rfl)
theorem dX0_wrongTwos_9 : decode cX0_wrongTwos 9 = .ok (.aload_n 0, 1) := dk_42 (dk_at dksX0_wrongTwos_0 9 rfl rfl)
theorem dX0_wrongTwos_10 : decode cX0_wrongTwos 10 = .ok (.getfield 11, 3) := dk_180 0 11 (dk_at dksX0_wrongTwos_0 10 rfl rfl)
theorem dX0_wrongTwos_13 : decode cX0_wrongTwos 13 = .ok (.iload_n 1, 1) := dk_27 (dk_at dksX0_wrongTwos_0 13 rfl rfl)
theorem dX0_wrongTwos_14 : decode cX0_wrongTwos 14 = .ok (.aaload, 1) := dk_50 (dk_at dksX0_wrongTwos_0 14 rfl rfl)
theorem dX0_wrongTwos_15 : decode cX0_wrongTwos 15 = .ok (.astore 6, 2) := dk_58 6 (dk_at dksX0_wrongTwos_0 15 rfl rfl)
theorem dX0_wrongTwos_17 : decode cX0_wrongTwos 17 = .ok (.aload 6, 2) := dk_25 6 (dk_at dksX0_wrongTwos_0 17 rfl rfl)
theorem dX0_wrongTwos_19 : decode cX0_wrongTwos 19 = .ok (.getfield 132, 3) := dk_180 0 132 (dk_at dksX0_wrongTwos_0 19 rfl rfl)
theorem dX0_wrongTwos_22 : decode cX0_wrongTwos 22 = .ok (.ifnonnull 5, 3) := dk_199 0 5 (dk_at dksX0_wrongTwos_1 0 rfl rfl)
theorem dX0_wrongTwos_25 : decode cX0_wrongTwos 25 = .ok (.iconst 3, 1) := dk_6 (dk_at dksX0_wrongTwos_1 3 rfl rfl)
theorem dX0_wrongTwos_26 : decode cX0_wrongTwos 26 = .ok (.ireturn, 1) := dk_172 (dk_at dksX0_wrongTwos_1 4 rfl rfl)
theorem dX0_wrongTwos_27 : decode cX0_wrongTwos 27 = .ok (.aload 6, 2) := dk_25 6 (dk_at dksX0_wrongTwos_1 5 rfl rfl)
theorem dX0_wrongTwos_29 : decode cX0_wrongTwos 29 = .ok (.invokevirtual 312, 3) := dk_182 1 56 (dk_at dksX0_wrongTwos_1 7 rfl rfl)
theorem dX0_wrongTwos_32 : decode cX0_wrongTwos 32 = .ok (.i2l, 1) := dk_133 (dk_at dksX0_wrongTwos_1 10 rfl rfl)
theorem dX0_wrongTwos_33 : decode cX0_wrongTwos 33 = .ok (.ldc2_w 368, 3) := dk_20 1 112 (dk_at dksX0_wrongTwos_1 11 rfl rfl)
theorem dX0_wrongTwos_36 : decode cX0_wrongTwos 36 = .ok (.iload_n 2, 1) := dk_28 (dk_at dksX0_wrongTwos_1 14 rfl rfl)
theorem dX0_wrongTwos_37 : decode cX0_wrongTwos 37 = .ok (.i2l, 1) := dk_133 (dk_at dksX0_wrongTwos_1 15 rfl rfl)
theorem dX0_wrongTwos_38 : decode cX0_wrongTwos 38 = .ok (.lmul, 1) := dk_105 (dk_at dksX0_wrongTwos_1 16 rfl rfl)
theorem dX0_wrongTwos_39 : decode cX0_wrongTwos 39 = .ok (.lcmp, 1) := dk_148 (dk_at dksX0_wrongTwos_1 17 rfl rfl)
theorem dX0_wrongTwos_40 : decode cX0_wrongTwos 40 = .ok (.ifCond .ge 5, 3) := dk_156 0 5 (dk_at dksX0_wrongTwos_1 18 rfl rfl)
theorem dX0_wrongTwos_43 : decode cX0_wrongTwos 43 = .ok (.iconst 4, 1) := dk_7 (dk_at dksX0_wrongTwos_1 21 rfl rfl)
theorem dX0_wrongTwos_44 : decode cX0_wrongTwos 44 = .ok (.ireturn, 1) := dk_172 (dk_at dksX0_wrongTwos_1 22 rfl rfl)
theorem dX0_wrongTwos_45 : decode cX0_wrongTwos 45 = .ok (.iload_n 2, 1) := dk_28 (dk_at dksX0_wrongTwos_1 23 rfl rfl)
theorem dX0_wrongTwos_46 : decode cX0_wrongTwos 46 = .ok (.i2l, 1) := dk_133 (dk_at dksX0_wrongTwos_2 0 rfl rfl)
theorem dX0_wrongTwos_47 : decode cX0_wrongTwos 47 = .ok (.lconst 0, 1) := dk_9 (dk_at dksX0_wrongTwos_2 1 rfl rfl)
theorem dX0_wrongTwos_48 : decode cX0_wrongTwos 48 = .ok (.ldc2_w 370, 3) := dk_20 1 114 (dk_at dksX0_wrongTwos_2 2 rfl rfl)
theorem dX0_wrongTwos_51 : decode cX0_wrongTwos 51 = .ok (.invokestatic 162, 3) := dk_184 0 162 (dk_at dksX0_wrongTwos_2 5 rfl rfl)
theorem dX0_wrongTwos_54 : decode cX0_wrongTwos 54 = .ok (.ifCond .ne 5, 3) := dk_154 0 5 (dk_at dksX0_wrongTwos_2 8 rfl rfl)
theorem dX0_wrongTwos_57 : decode cX0_wrongTwos 57 = .ok (.iconst 5, 1) := dk_8 (dk_at dksX0_wrongTwos_2 11 rfl rfl)
theorem dX0_wrongTwos_58 : decode cX0_wrongTwos 58 = .ok (.ireturn, 1) := dk_172 (dk_at dksX0_wrongTwos_2 12 rfl rfl)
theorem dX0_wrongTwos_59 : decode cX0_wrongTwos 59 = .ok (.iconst 0, 1) := dk_3 (dk_at dksX0_wrongTwos_2 13 rfl rfl)
theorem dX0_wrongTwos_60 : decode cX0_wrongTwos 60 = .ok (.istore 7, 2) := dk_54 7 (dk_at dksX0_wrongTwos_2 14 rfl rfl)
theorem dX0_wrongTwos_62 : decode cX0_wrongTwos 62 = .ok (.iload 7, 2) := dk_21 7 (dk_at dksX0_wrongTwos_2 16 rfl rfl)
theorem dX0_wrongTwos_64 : decode cX0_wrongTwos 64 = .ok (.iload_n 2, 1) := dk_28 (dk_at dksX0_wrongTwos_2 18 rfl rfl)
theorem dX0_wrongTwos_65 : decode cX0_wrongTwos 65 = .ok (.if_icmp .ge 49, 3) := dk_162 0 49 (dk_at dksX0_wrongTwos_2 19 rfl rfl)
theorem dX0_wrongTwos_68 : decode cX0_wrongTwos 68 = .ok (.aload 6, 2) := dk_25 6 (dk_at dksX0_wrongTwos_2 22 rfl rfl)
theorem dX0_wrongTwos_70 : decode cX0_wrongTwos 70 = .ok (.iconst 2, 1) := dk_5 (dk_at dksX0_wrongTwos_3 0 rfl rfl)
theorem dX0_wrongTwos_71 : decode cX0_wrongTwos 71 = .ok (.iload 7, 2) := dk_21 7 (dk_at dksX0_wrongTwos_3 1 rfl rfl)
theorem dX0_wrongTwos_73 : decode cX0_wrongTwos 73 = .ok (.imul, 1) := dk_104 (dk_at dksX0_wrongTwos_3 3 rfl rfl)
theorem dX0_wrongTwos_74 : decode cX0_wrongTwos 74 = .ok (.invokevirtual 126, 3) := dk_182 0 126 (dk_at dksX0_wrongTwos_3 4 rfl rfl)
theorem dX0_wrongTwos_77 : decode cX0_wrongTwos 77 = .ok (.lconst 0, 1) := dk_9 (dk_at dksX0_wrongTwos_3 7 rfl rfl)
theorem dX0_wrongTwos_78 : decode cX0_wrongTwos 78 = .ok (.iload_n 3, 1) := dk_29 (dk_at dksX0_wrongTwos_3 8 rfl rfl)
theorem dX0_wrongTwos_79 : decode cX0_wrongTwos 79 = .ok (.i2l, 1) := dk_133 (dk_at dksX0_wrongTwos_3 9 rfl rfl)
theorem dX0_wrongTwos_80 : decode cX0_wrongTwos 80 = .ok (.invokestatic 162, 3) := dk_184 0 162 (dk_at dksX0_wrongTwos_3 10 rfl rfl)
theorem dX0_wrongTwos_83 : decode cX0_wrongTwos 83 = .ok (.ifCond .eq 23, 3) := dk_153 0 23 (dk_at dksX0_wrongTwos_3 13 rfl rfl)
theorem dX0_wrongTwos_86 : decode cX0_wrongTwos 86 = .ok (.aload 6, 2) := dk_25 6 (dk_at dksX0_wrongTwos_3 16 rfl rfl)
theorem dX0_wrongTwos_88 : decode cX0_wrongTwos 88 = .ok (.iconst 2, 1) := dk_5 (dk_at dksX0_wrongTwos_3 18 rfl rfl)
theorem dX0_wrongTwos_89 : decode cX0_wrongTwos 89 = .ok (.iload 7, 2) := dk_21 7 (dk_at dksX0_wrongTwos_3 19 rfl rfl)
theorem dX0_wrongTwos_91 : decode cX0_wrongTwos 91 = .ok (.imul, 1) := dk_104 (dk_at dksX0_wrongTwos_3 21 rfl rfl)
theorem dX0_wrongTwos_92 : decode cX0_wrongTwos 92 = .ok (.iconst 1, 1) := dk_4 (dk_at dksX0_wrongTwos_3 22 rfl rfl)
theorem dX0_wrongTwos_93 : decode cX0_wrongTwos 93 = .ok (.iadd, 1) := dk_96 (dk_at dksX0_wrongTwos_3 23 rfl rfl)
theorem dX0_wrongTwos_94 : decode cX0_wrongTwos 94 = .ok (.invokevirtual 126, 3) := dk_182 0 126 (dk_at dksX0_wrongTwos_4 0 rfl rfl)
theorem dX0_wrongTwos_97 : decode cX0_wrongTwos 97 = .ok (.lconst 0, 1) := dk_9 (dk_at dksX0_wrongTwos_4 3 rfl rfl)
theorem dX0_wrongTwos_98 : decode cX0_wrongTwos 98 = .ok (.lload 4, 2) := dk_22 4 (dk_at dksX0_wrongTwos_4 4 rfl rfl)
theorem dX0_wrongTwos_100 : decode cX0_wrongTwos 100 = .ok (.invokestatic 162, 3) := dk_184 0 162 (dk_at dksX0_wrongTwos_4 6 rfl rfl)
theorem dX0_wrongTwos_103 : decode cX0_wrongTwos 103 = .ok (.ifCond .ne 5, 3) := dk_154 0 5 (dk_at dksX0_wrongTwos_4 9 rfl rfl)
theorem dX0_wrongTwos_106 : decode cX0_wrongTwos 106 = .ok (.iconst 5, 1) := dk_8 (dk_at dksX0_wrongTwos_4 12 rfl rfl)
theorem dX0_wrongTwos_107 : decode cX0_wrongTwos 107 = .ok (.ireturn, 1) := dk_172 (dk_at dksX0_wrongTwos_4 13 rfl rfl)
theorem dX0_wrongTwos_108 : decode cX0_wrongTwos 108 = .ok (.iinc 7 1, 3) := dk_132 7 1 (dk_at dksX0_wrongTwos_4 14 rfl rfl)
theorem dX0_wrongTwos_111 : decode cX0_wrongTwos 111 = .ok (.goto (-49), 3) := dk_167 255 207 (dk_at dksX0_wrongTwos_4 17 rfl rfl)
theorem dX0_wrongTwos_114 : decode cX0_wrongTwos 114 = .ok (.iconst 0, 1) := dk_3 (dk_at dksX0_wrongTwos_4 20 rfl rfl)
theorem dX0_wrongTwos_115 : decode cX0_wrongTwos 115 = .ok (.ireturn, 1) := dk_172 (dk_at dksX0_wrongTwos_4 21 rfl rfl)
abbrev cX0_setsOf : ByteArray := prog_1_method_64_code
def yX0_setsOf : MethodName := ⟨RX0, "setsOf", "(II)I"⟩
def dkwX0_setsOf_1 : List UInt8 := [182, 1, 125, 153, 0, 7, 4, 167, 0, 4, 3, 96, 62, 132, 4, 1, 167, 255, 222, 29, 172]
abbrev dktX0_setsOf_1 : List UInt8 := dkwX0_setsOf_1 ++ []
def dkwX0_setsOf_0 : List UInt8 := [3, 62, 3, 54, 4, 21, 4, 42, 180, 0, 38, 182, 0, 158, 163, 0, 28, 29, 42, 27, 28, 21, 4]
abbrev dktX0_setsOf_0 : List UInt8 := dkwX0_setsOf_0 ++ dktX0_setsOf_1
theorem dksX0_setsOf_0 : cX0_setsOf.data.toList.drop 0 = dktX0_setsOf_0 := by decide +kernel
theorem dksX0_setsOf_1 : cX0_setsOf.data.toList.drop 23 = dktX0_setsOf_1 := dk_seg dksX0_setsOf_0 23 rfl rfl
theorem dX0_setsOf_0 : decode cX0_setsOf 0 = .ok (.iconst 0, 1) := dk_3 (dk_at dksX0_setsOf_0 0 rfl rfl)
theorem dX0_setsOf_1 : decode cX0_setsOf 1 = .ok (.istore_n 3, 1) := dk_62 (dk_at dksX0_setsOf_0 1 rfl rfl)
theorem dX0_setsOf_2 : decode cX0_setsOf 2 = .ok (.iconst 0, 1) := dk_3 (dk_at dksX0_setsOf_0 2 rfl rfl)
theorem dX0_setsOf_3 : decode cX0_setsOf 3 = .ok (.istore 4, 2) := dk_54 4 (dk_at dksX0_setsOf_0 3 rfl rfl)
theorem dX0_setsOf_5 : decode cX0_setsOf 5 = .ok (.iload 4, 2) := dk_21 4 (dk_at dksX0_setsOf_0 5 rfl rfl)
theorem dX0_setsOf_7 : decode cX0_setsOf 7 = .ok (.aload_n 0, 1) := dk_42 (dk_at dksX0_setsOf_0 7 rfl rfl)
theorem dX0_setsOf_8 : decode cX0_setsOf 8 = .ok (.getfield 38, 3) := dk_180 0 38 (dk_at dksX0_setsOf_0 8 rfl rfl)
theorem dX0_setsOf_11 : decode cX0_setsOf 11 = .ok (.invokevirtual 158, 3) := dk_182 0 158 (dk_at dksX0_setsOf_0 11 rfl rfl)
theorem dX0_setsOf_14 : decode cX0_setsOf 14 = .ok (.if_icmp .gt 28, 3) := dk_163 0 28 (dk_at dksX0_setsOf_0 14 rfl rfl)
theorem dX0_setsOf_17 : decode cX0_setsOf 17 = .ok (.iload_n 3, 1) := dk_29 (dk_at dksX0_setsOf_0 17 rfl rfl)
theorem dX0_setsOf_18 : decode cX0_setsOf 18 = .ok (.aload_n 0, 1) := dk_42 (dk_at dksX0_setsOf_0 18 rfl rfl)
theorem dX0_setsOf_19 : decode cX0_setsOf 19 = .ok (.iload_n 1, 1) := dk_27 (dk_at dksX0_setsOf_0 19 rfl rfl)
theorem dX0_setsOf_20 : decode cX0_setsOf 20 = .ok (.iload_n 2, 1) := dk_28 (dk_at dksX0_setsOf_0 20 rfl rfl)
theorem dX0_setsOf_21 : decode cX0_setsOf 21 = .ok (.iload 4, 2) := dk_21 4 (dk_at dksX0_setsOf_0 21 rfl rfl)
theorem dX0_setsOf_23 : decode cX0_setsOf 23 = .ok (.invokevirtual 381, 3) := dk_182 1 125 (dk_at dksX0_setsOf_1 0 rfl rfl)
theorem dX0_setsOf_26 : decode cX0_setsOf 26 = .ok (.ifCond .eq 7, 3) := dk_153 0 7 (dk_at dksX0_setsOf_1 3 rfl rfl)
theorem dX0_setsOf_29 : decode cX0_setsOf 29 = .ok (.iconst 1, 1) := dk_4 (dk_at dksX0_setsOf_1 6 rfl rfl)
theorem dX0_setsOf_30 : decode cX0_setsOf 30 = .ok (.goto 4, 3) := dk_167 0 4 (dk_at dksX0_setsOf_1 7 rfl rfl)
theorem dX0_setsOf_33 : decode cX0_setsOf 33 = .ok (.iconst 0, 1) := dk_3 (dk_at dksX0_setsOf_1 10 rfl rfl)
theorem dX0_setsOf_34 : decode cX0_setsOf 34 = .ok (.iadd, 1) := dk_96 (dk_at dksX0_setsOf_1 11 rfl rfl)
theorem dX0_setsOf_35 : decode cX0_setsOf 35 = .ok (.istore_n 3, 1) := dk_62 (dk_at dksX0_setsOf_1 12 rfl rfl)
theorem dX0_setsOf_36 : decode cX0_setsOf 36 = .ok (.iinc 4 1, 3) := dk_132 4 1 (dk_at dksX0_setsOf_1 13 rfl rfl)
theorem dX0_setsOf_39 : decode cX0_setsOf 39 = .ok (.goto (-34), 3) := dk_167 255 222 (dk_at dksX0_setsOf_1 16 rfl rfl)
theorem dX0_setsOf_42 : decode cX0_setsOf 42 = .ok (.iload_n 3, 1) := dk_29 (dk_at dksX0_setsOf_1 19 rfl rfl)
theorem dX0_setsOf_43 : decode cX0_setsOf 43 = .ok (.ireturn, 1) := dk_172 (dk_at dksX0_setsOf_1 20 rfl rfl)
abbrev cX0_canBe : ByteArray := prog_1_method_63_code
def yX0_canBe : MethodName := ⟨RX0, "canBe", "(III)Z"⟩
def dkwX0_canBe_2 : List UInt8 := [3, 172, 132, 5, 1, 167, 255, 214, 4, 172]
abbrev dktX0_canBe_2 : List UInt8 := dkwX0_canBe_2 ++ []
def dkwX0_canBe_1 : List UInt8 := [104, 182, 0, 126, 136, 182, 1, 122, 133, 25, 4, 5, 21, 5, 104, 4, 96, 182, 0, 126, 148, 153, 0, 5]
abbrev dktX0_canBe_1 : List UInt8 := dkwX0_canBe_1 ++ dktX0_canBe_2
def dkwX0_canBe_0 : List UInt8 := [42, 180, 0, 11, 27, 50, 58, 4, 3, 54, 5, 21, 5, 28, 162, 0, 42, 42, 29, 25, 4, 5, 21, 5]
abbrev dktX0_canBe_0 : List UInt8 := dkwX0_canBe_0 ++ dktX0_canBe_1
theorem dksX0_canBe_0 : cX0_canBe.data.toList.drop 0 = dktX0_canBe_0 := by decide +kernel
theorem dksX0_canBe_1 : cX0_canBe.data.toList.drop 24 = dktX0_canBe_1 := dk_seg dksX0_canBe_0 24 rfl rfl
theorem dksX0_canBe_2 : cX0_canBe.data.toList.drop 48 = dktX0_canBe_2 := dk_seg dksX0_canBe_1 24 rfl rfl
theorem dX0_canBe_0 : decode cX0_canBe 0 = .ok (.aload_n 0, 1) := dk_42 (dk_at dksX0_canBe_0 0 rfl rfl)
theorem dX0_canBe_1 : decode cX0_canBe 1 = .ok (.getfield 11, 3) := dk_180 0 11 (dk_at dksX0_canBe_0 1 rfl rfl)
theorem dX0_canBe_4 : decode cX0_canBe 4 = .ok (.iload_n 1, 1) := dk_27 (dk_at dksX0_canBe_0 4 rfl rfl)
theorem dX0_canBe_5 : decode cX0_canBe 5 = .ok (.aaload, 1) := dk_50 (dk_at dksX0_canBe_0 5 rfl rfl)
theorem dX0_canBe_6 : decode cX0_canBe 6 = .ok (.astore 4, 2) := dk_58 4 (dk_at dksX0_canBe_0 6 rfl rfl)
theorem dX0_canBe_8 : decode cX0_canBe 8 = .ok (.iconst 0, 1) := dk_3 (dk_at dksX0_canBe_0 8 rfl rfl)
theorem dX0_canBe_9 : decode cX0_canBe 9 = .ok (.istore 5, 2) := dk_54 5 (dk_at dksX0_canBe_0 9 rfl rfl)
theorem dX0_canBe_11 : decode cX0_canBe 11 = .ok (.iload 5, 2) := dk_21 5 (dk_at dksX0_canBe_0 11 rfl rfl)
theorem dX0_canBe_13 : decode cX0_canBe 13 = .ok (.iload_n 2, 1) := dk_28 (dk_at dksX0_canBe_0 13 rfl rfl)
theorem dX0_canBe_14 : decode cX0_canBe 14 = .ok (.if_icmp .ge 42, 3) := dk_162 0 42 (dk_at dksX0_canBe_0 14 rfl rfl)
theorem dX0_canBe_17 : decode cX0_canBe 17 = .ok (.aload_n 0, 1) := dk_42 (dk_at dksX0_canBe_0 17 rfl rfl)
theorem dX0_canBe_18 : decode cX0_canBe 18 = .ok (.iload_n 3, 1) := dk_29 (dk_at dksX0_canBe_0 18 rfl rfl)
theorem dX0_canBe_19 : decode cX0_canBe 19 = .ok (.aload 4, 2) := dk_25 4 (dk_at dksX0_canBe_0 19 rfl rfl)
theorem dX0_canBe_21 : decode cX0_canBe 21 = .ok (.iconst 2, 1) := dk_5 (dk_at dksX0_canBe_0 21 rfl rfl)
theorem dX0_canBe_22 : decode cX0_canBe 22 = .ok (.iload 5, 2) := dk_21 5 (dk_at dksX0_canBe_0 22 rfl rfl)
theorem dX0_canBe_24 : decode cX0_canBe 24 = .ok (.imul, 1) := dk_104 (dk_at dksX0_canBe_1 0 rfl rfl)
theorem dX0_canBe_25 : decode cX0_canBe 25 = .ok (.invokevirtual 126, 3) := dk_182 0 126 (dk_at dksX0_canBe_1 1 rfl rfl)
theorem dX0_canBe_28 : decode cX0_canBe 28 = .ok (.l2i, 1) := dk_136 (dk_at dksX0_canBe_1 4 rfl rfl)
theorem dX0_canBe_29 : decode cX0_canBe 29 = .ok (.invokevirtual 378, 3) := dk_182 1 122 (dk_at dksX0_canBe_1 5 rfl rfl)
theorem dX0_canBe_32 : decode cX0_canBe 32 = .ok (.i2l, 1) := dk_133 (dk_at dksX0_canBe_1 8 rfl rfl)
theorem dX0_canBe_33 : decode cX0_canBe 33 = .ok (.aload 4, 2) := dk_25 4 (dk_at dksX0_canBe_1 9 rfl rfl)
theorem dX0_canBe_35 : decode cX0_canBe 35 = .ok (.iconst 2, 1) := dk_5 (dk_at dksX0_canBe_1 11 rfl rfl)
theorem dX0_canBe_36 : decode cX0_canBe 36 = .ok (.iload 5, 2) := dk_21 5 (dk_at dksX0_canBe_1 12 rfl rfl)
theorem dX0_canBe_38 : decode cX0_canBe 38 = .ok (.imul, 1) := dk_104 (dk_at dksX0_canBe_1 14 rfl rfl)
theorem dX0_canBe_39 : decode cX0_canBe 39 = .ok (.iconst 1, 1) := dk_4 (dk_at dksX0_canBe_1 15 rfl rfl)
theorem dX0_canBe_40 : decode cX0_canBe 40 = .ok (.iadd, 1) := dk_96 (dk_at dksX0_canBe_1 16 rfl rfl)
theorem dX0_canBe_41 : decode cX0_canBe 41 = .ok (.invokevirtual 126, 3) := dk_182 0 126 (dk_at dksX0_canBe_1 17 rfl rfl)
theorem dX0_canBe_44 : decode cX0_canBe 44 = .ok (.lcmp, 1) := dk_148 (dk_at dksX0_canBe_1 20 rfl rfl)
theorem dX0_canBe_45 : decode cX0_canBe 45 = .ok (.ifCond .eq 5, 3) := dk_153 0 5 (dk_at dksX0_canBe_1 21 rfl rfl)
theorem dX0_canBe_48 : decode cX0_canBe 48 = .ok (.iconst 0, 1) := dk_3 (dk_at dksX0_canBe_2 0 rfl rfl)
theorem dX0_canBe_49 : decode cX0_canBe 49 = .ok (.ireturn, 1) := dk_172 (dk_at dksX0_canBe_2 1 rfl rfl)
theorem dX0_canBe_50 : decode cX0_canBe 50 = .ok (.iinc 5 1, 3) := dk_132 5 1 (dk_at dksX0_canBe_2 2 rfl rfl)
theorem dX0_canBe_53 : decode cX0_canBe 53 = .ok (.goto (-42), 3) := dk_167 255 214 (dk_at dksX0_canBe_2 5 rfl rfl)
theorem dX0_canBe_56 : decode cX0_canBe 56 = .ok (.iconst 1, 1) := dk_4 (dk_at dksX0_canBe_2 8 rfl rfl)
theorem dX0_canBe_57 : decode cX0_canBe 57 = .ok (.ireturn, 1) := dk_172 (dk_at dksX0_canBe_2 9 rfl rfl)
abbrev cX0_lengthBy : ByteArray := prog_1_method_60_code
def yX0_lengthBy : MethodName := ⟨RX0, "lengthBy", "(II)I"⟩
def dkwX0_lengthBy_2 : List UInt8 := [132, 4, 1, 167, 255, 211, 29, 172]
abbrev dktX0_lengthBy_2 : List UInt8 := dkwX0_lengthBy_2 ++ []
def dkwX0_lengthBy_1 : List UInt8 := [153, 0, 20, 42, 180, 0, 38, 180, 0, 245, 21, 4, 50, 28, 182, 1, 109, 167, 0, 4, 3, 96, 62]
abbrev dktX0_lengthBy_1 : List UInt8 := dkwX0_lengthBy_1 ++ dktX0_lengthBy_2
def dkwX0_lengthBy_0 : List UInt8 := [3, 62, 3, 54, 4, 21, 4, 42, 180, 0, 38, 180, 0, 147, 162, 0, 39, 29, 27, 21, 4, 184, 1, 23]
abbrev dktX0_lengthBy_0 : List UInt8 := dkwX0_lengthBy_0 ++ dktX0_lengthBy_1
theorem dksX0_lengthBy_0 : cX0_lengthBy.data.toList.drop 0 = dktX0_lengthBy_0 := by decide +kernel
theorem dksX0_lengthBy_1 : cX0_lengthBy.data.toList.drop 24 = dktX0_lengthBy_1 := dk_seg dksX0_lengthBy_0 24 rfl rfl
theorem dksX0_lengthBy_2 : cX0_lengthBy.data.toList.drop 47 = dktX0_lengthBy_2 := dk_seg dksX0_lengthBy_1 23 rfl rfl
theorem dX0_lengthBy_0 : decode cX0_lengthBy 0 = .ok (.iconst 0, 1) := dk_3 (dk_at dksX0_lengthBy_0 0 rfl rfl)
theorem dX0_lengthBy_1 : decode cX0_lengthBy 1 = .ok (.istore_n 3, 1) := dk_62 (dk_at dksX0_lengthBy_0 1 rfl rfl)
theorem dX0_lengthBy_2 : decode cX0_lengthBy 2 = .ok (.iconst 0, 1) := dk_3 (dk_at dksX0_lengthBy_0 2 rfl rfl)
theorem dX0_lengthBy_3 : decode cX0_lengthBy 3 = .ok (.istore 4, 2) := dk_54 4 (dk_at dksX0_lengthBy_0 3 rfl rfl)
theorem dX0_lengthBy_5 : decode cX0_lengthBy 5 = .ok (.iload 4, 2) := dk_21 4 (dk_at dksX0_lengthBy_0 5 rfl rfl)
theorem dX0_lengthBy_7 : decode cX0_lengthBy 7 = .ok (.aload_n 0, 1) := dk_42 (dk_at dksX0_lengthBy_0 7 rfl rfl)
theorem dX0_lengthBy_8 : decode cX0_lengthBy 8 = .ok (.getfield 38, 3) := dk_180 0 38 (dk_at dksX0_lengthBy_0 8 rfl rfl)
theorem dX0_lengthBy_11 : decode cX0_lengthBy 11 = .ok (.getfield 147, 3) := dk_180 0 147 (dk_at dksX0_lengthBy_0 11 rfl rfl)
theorem dX0_lengthBy_14 : decode cX0_lengthBy 14 = .ok (.if_icmp .ge 39, 3) := dk_162 0 39 (dk_at dksX0_lengthBy_0 14 rfl rfl)
theorem dX0_lengthBy_17 : decode cX0_lengthBy 17 = .ok (.iload_n 3, 1) := dk_29 (dk_at dksX0_lengthBy_0 17 rfl rfl)
theorem dX0_lengthBy_18 : decode cX0_lengthBy 18 = .ok (.iload_n 1, 1) := dk_27 (dk_at dksX0_lengthBy_0 18 rfl rfl)
theorem dX0_lengthBy_19 : decode cX0_lengthBy 19 = .ok (.iload 4, 2) := dk_21 4 (dk_at dksX0_lengthBy_0 19 rfl rfl)
theorem dX0_lengthBy_21 : decode cX0_lengthBy 21 = .ok (.invokestatic 279, 3) := dk_184 1 23 (dk_at dksX0_lengthBy_0 21 rfl rfl)
theorem dX0_lengthBy_24 : decode cX0_lengthBy 24 = .ok (.ifCond .eq 20, 3) := dk_153 0 20 (dk_at dksX0_lengthBy_1 0 rfl rfl)
theorem dX0_lengthBy_27 : decode cX0_lengthBy 27 = .ok (.aload_n 0, 1) := dk_42 (dk_at dksX0_lengthBy_1 3 rfl rfl)
theorem dX0_lengthBy_28 : decode cX0_lengthBy 28 = .ok (.getfield 38, 3) := dk_180 0 38 (dk_at dksX0_lengthBy_1 4 rfl rfl)
theorem dX0_lengthBy_31 : decode cX0_lengthBy 31 = .ok (.getfield 245, 3) := dk_180 0 245 (dk_at dksX0_lengthBy_1 7 rfl rfl)
theorem dX0_lengthBy_34 : decode cX0_lengthBy 34 = .ok (.iload 4, 2) := dk_21 4 (dk_at dksX0_lengthBy_1 10 rfl rfl)
theorem dX0_lengthBy_36 : decode cX0_lengthBy 36 = .ok (.aaload, 1) := dk_50 (dk_at dksX0_lengthBy_1 12 rfl rfl)
theorem dX0_lengthBy_37 : decode cX0_lengthBy 37 = .ok (.iload_n 2, 1) := dk_28 (dk_at dksX0_lengthBy_1 13 rfl rfl)
theorem dX0_lengthBy_38 : decode cX0_lengthBy 38 = .ok (.invokevirtual 365, 3) := dk_182 1 109 (dk_at dksX0_lengthBy_1 14 rfl rfl)
theorem dX0_lengthBy_41 : decode cX0_lengthBy 41 = .ok (.goto 4, 3) := dk_167 0 4 (dk_at dksX0_lengthBy_1 17 rfl rfl)
theorem dX0_lengthBy_44 : decode cX0_lengthBy 44 = .ok (.iconst 0, 1) := dk_3 (dk_at dksX0_lengthBy_1 20 rfl rfl)
theorem dX0_lengthBy_45 : decode cX0_lengthBy 45 = .ok (.iadd, 1) := dk_96 (dk_at dksX0_lengthBy_1 21 rfl rfl)
theorem dX0_lengthBy_46 : decode cX0_lengthBy 46 = .ok (.istore_n 3, 1) := dk_62 (dk_at dksX0_lengthBy_1 22 rfl rfl)
theorem dX0_lengthBy_47 : decode cX0_lengthBy 47 = .ok (.iinc 4 1, 3) := dk_132 4 1 (dk_at dksX0_lengthBy_2 0 rfl rfl)
theorem dX0_lengthBy_50 : decode cX0_lengthBy 50 = .ok (.goto (-45), 3) := dk_167 255 211 (dk_at dksX0_lengthBy_2 3 rfl rfl)
theorem dX0_lengthBy_53 : decode cX0_lengthBy 53 = .ok (.iload_n 3, 1) := dk_29 (dk_at dksX0_lengthBy_2 6 rfl rfl)
theorem dX0_lengthBy_54 : decode cX0_lengthBy 54 = .ok (.ireturn, 1) := dk_172 (dk_at dksX0_lengthBy_2 7 rfl rfl)
abbrev cX0_sure : ByteArray := prog_1_method_66_code
def yX0_sure : MethodName := ⟨RX0, "sure", "(II)I"⟩
def dkwX0_sure_3 : List UInt8 := [42, 21, 4, 182, 1, 53, 172]
abbrev dktX0_sure_3 : List UInt8 := dkwX0_sure_3 ++ []
def dkwX0_sure_2 : List UInt8 := [21, 4, 2, 160, 0, 8, 21, 5, 167, 0, 8, 21, 4, 21, 5, 126, 54, 4, 132, 5, 1, 167, 255, 212]
abbrev dktX0_sure_2 : List UInt8 := dkwX0_sure_2 ++ dktX0_sure_3
def dkwX0_sure_1 : List UInt8 := [21, 5, 42, 180, 0, 38, 182, 0, 158, 163, 0, 38, 42, 27, 28, 21, 5, 182, 1, 125, 153, 0, 21]
abbrev dktX0_sure_1 : List UInt8 := dkwX0_sure_1 ++ dktX0_sure_2
def dkwX0_sure_0 : List UInt8 := [42, 27, 28, 182, 1, 128, 62, 29, 158, 0, 9, 42, 29, 182, 0, 98, 172, 2, 54, 4, 3, 54, 5]
abbrev dktX0_sure_0 : List UInt8 := dkwX0_sure_0 ++ dktX0_sure_1
theorem dksX0_sure_0 : cX0_sure.data.toList.drop 0 = dktX0_sure_0 := by decide +kernel
theorem dksX0_sure_1 : cX0_sure.data.toList.drop 23 = dktX0_sure_1 := dk_seg dksX0_sure_0 23 rfl rfl
theorem dksX0_sure_2 : cX0_sure.data.toList.drop 46 = dktX0_sure_2 := dk_seg dksX0_sure_1 23 rfl rfl
theorem dksX0_sure_3 : cX0_sure.data.toList.drop 70 = dktX0_sure_3 := dk_seg dksX0_sure_2 24 rfl rfl
theorem dX0_sure_0 : decode cX0_sure 0 = .ok (.aload_n 0, 1) := dk_42 (dk_at dksX0_sure_0 0 rfl rfl)
theorem dX0_sure_1 : decode cX0_sure 1 = .ok (.iload_n 1, 1) := dk_27 (dk_at dksX0_sure_0 1 rfl rfl)
theorem dX0_sure_2 : decode cX0_sure 2 = .ok (.iload_n 2, 1) := dk_28 (dk_at dksX0_sure_0 2 rfl rfl)
theorem dX0_sure_3 : decode cX0_sure 3 = .ok (.invokevirtual 384, 3) := dk_182 1 128 (dk_at dksX0_sure_0 3 rfl rfl)
theorem dX0_sure_6 : decode cX0_sure 6 = .ok (.istore_n 3, 1) := dk_62 (dk_at dksX0_sure_0 6 rfl rfl)
theorem dX0_sure_7 : decode cX0_sure 7 = .ok (.iload_n 3, 1) := dk_29 (dk_at dksX0_sure_0 7 rfl rfl)
theorem dX0_sure_8 : decode cX0_sure 8 = .ok (.ifCond .le 9, 3) := dk_158 0 9 (dk_at dksX0_sure_0 8 rfl rfl)
theorem dX0_sure_11 : decode cX0_sure 11 = .ok (.aload_n 0, 1) := dk_42 (dk_at dksX0_sure_0 11 rfl rfl)
theorem dX0_sure_12 : decode cX0_sure 12 = .ok (.iload_n 3, 1) := dk_29 (dk_at dksX0_sure_0 12 rfl rfl)
theorem dX0_sure_13 : decode cX0_sure 13 = .ok (.invokevirtual 98, 3) := dk_182 0 98 (dk_at dksX0_sure_0 13 rfl rfl)
theorem dX0_sure_16 : decode cX0_sure 16 = .ok (.ireturn, 1) := dk_172 (dk_at dksX0_sure_0 16 rfl rfl)
theorem dX0_sure_17 : decode cX0_sure 17 = .ok (.iconst (-1), 1) := dk_2 (dk_at dksX0_sure_0 17 rfl rfl)
theorem dX0_sure_18 : decode cX0_sure 18 = .ok (.istore 4, 2) := dk_54 4 (dk_at dksX0_sure_0 18 rfl rfl)
theorem dX0_sure_20 : decode cX0_sure 20 = .ok (.iconst 0, 1) := dk_3 (dk_at dksX0_sure_0 20 rfl rfl)
theorem dX0_sure_21 : decode cX0_sure 21 = .ok (.istore 5, 2) := dk_54 5 (dk_at dksX0_sure_0 21 rfl rfl)
theorem dX0_sure_23 : decode cX0_sure 23 = .ok (.iload 5, 2) := dk_21 5 (dk_at dksX0_sure_1 0 rfl rfl)
theorem dX0_sure_25 : decode cX0_sure 25 = .ok (.aload_n 0, 1) := dk_42 (dk_at dksX0_sure_1 2 rfl rfl)
theorem dX0_sure_26 : decode cX0_sure 26 = .ok (.getfield 38, 3) := dk_180 0 38 (dk_at dksX0_sure_1 3 rfl rfl)
theorem dX0_sure_29 : decode cX0_sure 29 = .ok (.invokevirtual 158, 3) := dk_182 0 158 (dk_at dksX0_sure_1 6 rfl rfl)
theorem dX0_sure_32 : decode cX0_sure 32 = .ok (.if_icmp .gt 38, 3) := dk_163 0 38 (dk_at dksX0_sure_1 9 rfl rfl)
theorem dX0_sure_35 : decode cX0_sure 35 = .ok (.aload_n 0, 1) := dk_42 (dk_at dksX0_sure_1 12 rfl rfl)
theorem dX0_sure_36 : decode cX0_sure 36 = .ok (.iload_n 1, 1) := dk_27 (dk_at dksX0_sure_1 13 rfl rfl)
theorem dX0_sure_37 : decode cX0_sure 37 = .ok (.iload_n 2, 1) := dk_28 (dk_at dksX0_sure_1 14 rfl rfl)
theorem dX0_sure_38 : decode cX0_sure 38 = .ok (.iload 5, 2) := dk_21 5 (dk_at dksX0_sure_1 15 rfl rfl)
theorem dX0_sure_40 : decode cX0_sure 40 = .ok (.invokevirtual 381, 3) := dk_182 1 125 (dk_at dksX0_sure_1 17 rfl rfl)
theorem dX0_sure_43 : decode cX0_sure 43 = .ok (.ifCond .eq 21, 3) := dk_153 0 21 (dk_at dksX0_sure_1 20 rfl rfl)
theorem dX0_sure_46 : decode cX0_sure 46 = .ok (.iload 4, 2) := dk_21 4 (dk_at dksX0_sure_2 0 rfl rfl)
theorem dX0_sure_48 : decode cX0_sure 48 = .ok (.iconst (-1), 1) := dk_2 (dk_at dksX0_sure_2 2 rfl rfl)
theorem dX0_sure_49 : decode cX0_sure 49 = .ok (.if_icmp .ne 8, 3) := dk_160 0 8 (dk_at dksX0_sure_2 3 rfl rfl)
theorem dX0_sure_52 : decode cX0_sure 52 = .ok (.iload 5, 2) := dk_21 5 (dk_at dksX0_sure_2 6 rfl rfl)
theorem dX0_sure_54 : decode cX0_sure 54 = .ok (.goto 8, 3) := dk_167 0 8 (dk_at dksX0_sure_2 8 rfl rfl)
theorem dX0_sure_57 : decode cX0_sure 57 = .ok (.iload 4, 2) := dk_21 4 (dk_at dksX0_sure_2 11 rfl rfl)
theorem dX0_sure_59 : decode cX0_sure 59 = .ok (.iload 5, 2) := dk_21 5 (dk_at dksX0_sure_2 13 rfl rfl)
theorem dX0_sure_61 : decode cX0_sure 61 = .ok (.iand, 1) := dk_126 (dk_at dksX0_sure_2 15 rfl rfl)
theorem dX0_sure_62 : decode cX0_sure 62 = .ok (.istore 4, 2) := dk_54 4 (dk_at dksX0_sure_2 16 rfl rfl)
theorem dX0_sure_64 : decode cX0_sure 64 = .ok (.iinc 5 1, 3) := dk_132 5 1 (dk_at dksX0_sure_2 18 rfl rfl)
theorem dX0_sure_67 : decode cX0_sure 67 = .ok (.goto (-44), 3) := dk_167 255 212 (dk_at dksX0_sure_2 21 rfl rfl)
theorem dX0_sure_70 : decode cX0_sure 70 = .ok (.aload_n 0, 1) := dk_42 (dk_at dksX0_sure_3 0 rfl rfl)
theorem dX0_sure_71 : decode cX0_sure 71 = .ok (.iload 4, 2) := dk_21 4 (dk_at dksX0_sure_3 1 rfl rfl)
theorem dX0_sure_73 : decode cX0_sure 73 = .ok (.invokevirtual 309, 3) := dk_182 1 53 (dk_at dksX0_sure_3 3 rfl rfl)
theorem dX0_sure_76 : decode cX0_sure 76 = .ok (.ireturn, 1) := dk_172 (dk_at dksX0_sure_3 6 rfl rfl)
abbrev cX0_ask : ByteArray := prog_1_method_68_code
def yX0_ask : MethodName := ⟨RX0, "ask", "(II)I"⟩
def dkwX0_ask_3 : List UInt8 := [21, 7, 54, 5, 21, 6, 54, 4, 132, 6, 1, 167, 255, 218, 42, 21, 4, 182, 0, 102, 172]
abbrev dktX0_ask_3 : List UInt8 := dkwX0_ask_3 ++ []
def dkwX0_ask_2 : List UInt8 := [163, 0, 37, 42, 27, 28, 21, 6, 182, 1, 134, 54, 7, 21, 7, 21, 5, 163, 0, 6, 167, 0, 11]
abbrev dktX0_ask_2 : List UInt8 := dkwX0_ask_2 ++ dktX0_ask_3
def dkwX0_ask_1 : List UInt8 := [162, 0, 10, 42, 16, 8, 182, 0, 98, 172, 2, 54, 4, 3, 54, 5, 4, 54, 6, 21, 6, 16, 99]
abbrev dktX0_ask_1 : List UInt8 := dkwX0_ask_1 ++ dktX0_ask_2
def dkwX0_ask_0 : List UInt8 := [42, 27, 28, 182, 1, 128, 62, 29, 158, 0, 9, 42, 29, 182, 0, 98, 172, 42, 27, 28, 182, 1, 131, 5]
abbrev dktX0_ask_0 : List UInt8 := dkwX0_ask_0 ++ dktX0_ask_1
theorem dksX0_ask_0 : cX0_ask.data.toList.drop 0 = dktX0_ask_0 := by decide +kernel
theorem dksX0_ask_1 : cX0_ask.data.toList.drop 24 = dktX0_ask_1 := dk_seg dksX0_ask_0 24 rfl rfl
theorem dksX0_ask_2 : cX0_ask.data.toList.drop 47 = dktX0_ask_2 := dk_seg dksX0_ask_1 23 rfl rfl
theorem dksX0_ask_3 : cX0_ask.data.toList.drop 70 = dktX0_ask_3 := dk_seg dksX0_ask_2 23 rfl rfl
theorem dX0_ask_0 : decode cX0_ask 0 = .ok (.aload_n 0, 1) := dk_42 (dk_at dksX0_ask_0 0 rfl rfl)
theorem dX0_ask_1 : decode cX0_ask 1 = .ok (.iload_n 1, 1) := dk_27 (dk_at dksX0_ask_0 1 rfl rfl)
theorem dX0_ask_2 : decode cX0_ask 2 = .ok (.iload_n 2, 1) := dk_28 (dk_at dksX0_ask_0 2 rfl rfl)
theorem dX0_ask_3 : decode cX0_ask 3 = .ok (.invokevirtual 384, 3) := dk_182 1 128 (dk_at dksX0_ask_0 3 rfl rfl)
theorem dX0_ask_6 : decode cX0_ask 6 = .ok (.istore_n 3, 1) := dk_62 (dk_at dksX0_ask_0 6 rfl rfl)
theorem dX0_ask_7 : decode cX0_ask 7 = .ok (.iload_n 3, 1) := dk_29 (dk_at dksX0_ask_0 7 rfl rfl)
theorem dX0_ask_8 : decode cX0_ask 8 = .ok (.ifCond .le 9, 3) := dk_158 0 9 (dk_at dksX0_ask_0 8 rfl rfl)
theorem dX0_ask_11 : decode cX0_ask 11 = .ok (.aload_n 0, 1) := dk_42 (dk_at dksX0_ask_0 11 rfl rfl)
theorem dX0_ask_12 : decode cX0_ask 12 = .ok (.iload_n 3, 1) := dk_29 (dk_at dksX0_ask_0 12 rfl rfl)
theorem dX0_ask_13 : decode cX0_ask 13 = .ok (.invokevirtual 98, 3) := dk_182 0 98 (dk_at dksX0_ask_0 13 rfl rfl)
theorem dX0_ask_16 : decode cX0_ask 16 = .ok (.ireturn, 1) := dk_172 (dk_at dksX0_ask_0 16 rfl rfl)
theorem dX0_ask_17 : decode cX0_ask 17 = .ok (.aload_n 0, 1) := dk_42 (dk_at dksX0_ask_0 17 rfl rfl)
theorem dX0_ask_18 : decode cX0_ask 18 = .ok (.iload_n 1, 1) := dk_27 (dk_at dksX0_ask_0 18 rfl rfl)
theorem dX0_ask_19 : decode cX0_ask 19 = .ok (.iload_n 2, 1) := dk_28 (dk_at dksX0_ask_0 19 rfl rfl)
theorem dX0_ask_20 : decode cX0_ask 20 = .ok (.invokevirtual 387, 3) := dk_182 1 131 (dk_at dksX0_ask_0 20 rfl rfl)
theorem dX0_ask_23 : decode cX0_ask 23 = .ok (.iconst 2, 1) := dk_5 (dk_at dksX0_ask_0 23 rfl rfl)
theorem dX0_ask_24 : decode cX0_ask 24 = .ok (.if_icmp .ge 10, 3) := dk_162 0 10 (dk_at dksX0_ask_1 0 rfl rfl)
theorem dX0_ask_27 : decode cX0_ask 27 = .ok (.aload_n 0, 1) := dk_42 (dk_at dksX0_ask_1 3 rfl rfl)
theorem dX0_ask_28 : decode cX0_ask 28 = .ok (.bipush 8, 2) := dk_16 8 (dk_at dksX0_ask_1 4 rfl rfl)
theorem dX0_ask_30 : decode cX0_ask 30 = .ok (.invokevirtual 98, 3) := dk_182 0 98 (dk_at dksX0_ask_1 6 rfl rfl)
theorem dX0_ask_33 : decode cX0_ask 33 = .ok (.ireturn, 1) := dk_172 (dk_at dksX0_ask_1 9 rfl rfl)
theorem dX0_ask_34 : decode cX0_ask 34 = .ok (.iconst (-1), 1) := dk_2 (dk_at dksX0_ask_1 10 rfl rfl)
theorem dX0_ask_35 : decode cX0_ask 35 = .ok (.istore 4, 2) := dk_54 4 (dk_at dksX0_ask_1 11 rfl rfl)
theorem dX0_ask_37 : decode cX0_ask 37 = .ok (.iconst 0, 1) := dk_3 (dk_at dksX0_ask_1 13 rfl rfl)
theorem dX0_ask_38 : decode cX0_ask 38 = .ok (.istore 5, 2) := dk_54 5 (dk_at dksX0_ask_1 14 rfl rfl)
theorem dX0_ask_40 : decode cX0_ask 40 = .ok (.iconst 1, 1) := dk_4 (dk_at dksX0_ask_1 16 rfl rfl)
theorem dX0_ask_41 : decode cX0_ask 41 = .ok (.istore 6, 2) := dk_54 6 (dk_at dksX0_ask_1 17 rfl rfl)
theorem dX0_ask_43 : decode cX0_ask 43 = .ok (.iload 6, 2) := dk_21 6 (dk_at dksX0_ask_1 19 rfl rfl)
theorem dX0_ask_45 : decode cX0_ask 45 = .ok (.bipush 99, 2) := dk_16 99 (dk_at dksX0_ask_1 21 rfl rfl)
theorem dX0_ask_47 : decode cX0_ask 47 = .ok (.if_icmp .gt 37, 3) := dk_163 0 37 (dk_at dksX0_ask_2 0 rfl rfl)
theorem dX0_ask_50 : decode cX0_ask 50 = .ok (.aload_n 0, 1) := dk_42 (dk_at dksX0_ask_2 3 rfl rfl)
theorem dX0_ask_51 : decode cX0_ask 51 = .ok (.iload_n 1, 1) := dk_27 (dk_at dksX0_ask_2 4 rfl rfl)
theorem dX0_ask_52 : decode cX0_ask 52 = .ok (.iload_n 2, 1) := dk_28 (dk_at dksX0_ask_2 5 rfl rfl)
theorem dX0_ask_53 : decode cX0_ask 53 = .ok (.iload 6, 2) := dk_21 6 (dk_at dksX0_ask_2 6 rfl rfl)
theorem dX0_ask_55 : decode cX0_ask 55 = .ok (.invokevirtual 390, 3) := dk_182 1 134 (dk_at dksX0_ask_2 8 rfl rfl)
theorem dX0_ask_58 : decode cX0_ask 58 = .ok (.istore 7, 2) := dk_54 7 (dk_at dksX0_ask_2 11 rfl rfl)
theorem dX0_ask_60 : decode cX0_ask 60 = .ok (.iload 7, 2) := dk_21 7 (dk_at dksX0_ask_2 13 rfl rfl)
theorem dX0_ask_62 : decode cX0_ask 62 = .ok (.iload 5, 2) := dk_21 5 (dk_at dksX0_ask_2 15 rfl rfl)
theorem dX0_ask_64 : decode cX0_ask 64 = .ok (.if_icmp .gt 6, 3) := dk_163 0 6 (dk_at dksX0_ask_2 17 rfl rfl)
theorem dX0_ask_67 : decode cX0_ask 67 = .ok (.goto 11, 3) := dk_167 0 11 (dk_at dksX0_ask_2 20 rfl rfl)
theorem dX0_ask_70 : decode cX0_ask 70 = .ok (.iload 7, 2) := dk_21 7 (dk_at dksX0_ask_3 0 rfl rfl)
theorem dX0_ask_72 : decode cX0_ask 72 = .ok (.istore 5, 2) := dk_54 5 (dk_at dksX0_ask_3 2 rfl rfl)
theorem dX0_ask_74 : decode cX0_ask 74 = .ok (.iload 6, 2) := dk_21 6 (dk_at dksX0_ask_3 4 rfl rfl)
theorem dX0_ask_76 : decode cX0_ask 76 = .ok (.istore 4, 2) := dk_54 4 (dk_at dksX0_ask_3 6 rfl rfl)
theorem dX0_ask_78 : decode cX0_ask 78 = .ok (.iinc 6 1, 3) := dk_132 6 1 (dk_at dksX0_ask_3 8 rfl rfl)
theorem dX0_ask_81 : decode cX0_ask 81 = .ok (.goto (-38), 3) := dk_167 255 218 (dk_at dksX0_ask_3 11 rfl rfl)
theorem dX0_ask_84 : decode cX0_ask 84 = .ok (.aload_n 0, 1) := dk_42 (dk_at dksX0_ask_3 14 rfl rfl)
theorem dX0_ask_85 : decode cX0_ask 85 = .ok (.iload 4, 2) := dk_21 4 (dk_at dksX0_ask_3 15 rfl rfl)
theorem dX0_ask_87 : decode cX0_ask 87 = .ok (.invokevirtual 102, 3) := dk_182 0 102 (dk_at dksX0_ask_3 17 rfl rfl)
theorem dX0_ask_90 : decode cX0_ask 90 = .ok (.ireturn, 1) := dk_172 (dk_at dksX0_ask_3 20 rfl rfl)
abbrev cX0_unlikeIn : ByteArray := prog_1_method_67_code
def yX0_unlikeIn : MethodName := ⟨RX0, "unlikeIn", "(III)I"⟩
def dkwX0_unlikeIn_4 : List UInt8 := [167, 255, 196, 21, 4, 172]
abbrev dktX0_unlikeIn_4 : List UInt8 := dkwX0_unlikeIn_4 ++ []
def dkwX0_unlikeIn_3 : List UInt8 := [167, 0, 19, 42, 180, 0, 56, 42, 21, 5, 29, 182, 1, 122, 4, 84, 132, 4, 1, 132, 5, 1]
abbrev dktX0_unlikeIn_3 : List UInt8 := dkwX0_unlikeIn_3 ++ dktX0_unlikeIn_4
def dkwX0_unlikeIn_2 : List UInt8 := [21, 5, 182, 1, 125, 153, 0, 37, 42, 180, 0, 56, 42, 21, 5, 29, 182, 1, 122, 51, 153, 0, 6]
abbrev dktX0_unlikeIn_2 : List UInt8 := dkwX0_unlikeIn_2 ++ dktX0_unlikeIn_3
def dkwX0_unlikeIn_1 : List UInt8 := [167, 255, 235, 3, 54, 4, 3, 54, 5, 21, 5, 42, 180, 0, 38, 182, 0, 158, 163, 0, 54, 42, 27, 28]
abbrev dktX0_unlikeIn_1 : List UInt8 := dkwX0_unlikeIn_1 ++ dktX0_unlikeIn_2
def dkwX0_unlikeIn_0 : List UInt8 := [3, 54, 4, 21, 4, 42, 180, 0, 56, 190, 162, 0, 17, 42, 180, 0, 56, 21, 4, 3, 84, 132, 4, 1]
abbrev dktX0_unlikeIn_0 : List UInt8 := dkwX0_unlikeIn_0 ++ dktX0_unlikeIn_1
theorem dksX0_unlikeIn_0 : cX0_unlikeIn.data.toList.drop 0 = dktX0_unlikeIn_0 := by decide +kernel
theorem dksX0_unlikeIn_1 : cX0_unlikeIn.data.toList.drop 24 = dktX0_unlikeIn_1 := dk_seg dksX0_unlikeIn_0 24 rfl rfl
theorem dksX0_unlikeIn_2 : cX0_unlikeIn.data.toList.drop 48 = dktX0_unlikeIn_2 := dk_seg dksX0_unlikeIn_1 24 rfl rfl
theorem dksX0_unlikeIn_3 : cX0_unlikeIn.data.toList.drop 71 = dktX0_unlikeIn_3 := dk_seg dksX0_unlikeIn_2 23 rfl rfl
theorem dksX0_unlikeIn_4 : cX0_unlikeIn.data.toList.drop 93 = dktX0_unlikeIn_4 := dk_seg dksX0_unlikeIn_3 22 rfl rfl
theorem dX0_unlikeIn_0 : decode cX0_unlikeIn 0 = .ok (.iconst 0, 1) := dk_3 (dk_at dksX0_unlikeIn_0 0 rfl rfl)
theorem dX0_unlikeIn_1 : decode cX0_unlikeIn 1 = .ok (.istore 4, 2) := dk_54 4 (dk_at dksX0_unlikeIn_0 1 rfl rfl)
theorem dX0_unlikeIn_3 : decode cX0_unlikeIn 3 = .ok (.iload 4, 2) := dk_21 4 (dk_at dksX0_unlikeIn_0 3 rfl rfl)
theorem dX0_unlikeIn_5 : decode cX0_unlikeIn 5 = .ok (.aload_n 0, 1) := dk_42 (dk_at dksX0_unlikeIn_0 5 rfl rfl)
theorem dX0_unlikeIn_6 : decode cX0_unlikeIn 6 = .ok (.getfield 56, 3) := dk_180 0 56 (dk_at dksX0_unlikeIn_0 6 rfl rfl)
theorem dX0_unlikeIn_9 : decode cX0_unlikeIn 9 = .ok (.arraylength, 1) := dk_190 (dk_at dksX0_unlikeIn_0 9 rfl rfl)
theorem dX0_unlikeIn_10 : decode cX0_unlikeIn 10 = .ok (.if_icmp .ge 17, 3) := dk_162 0 17 (dk_at dksX0_unlikeIn_0 10 rfl rfl)
theorem dX0_unlikeIn_13 : decode cX0_unlikeIn 13 = .ok (.aload_n 0, 1) := dk_42 (dk_at dksX0_unlikeIn_0 13 rfl rfl)
theorem dX0_unlikeIn_14 : decode cX0_unlikeIn 14 = .ok (.getfield 56, 3) := dk_180 0 56 (dk_at dksX0_unlikeIn_0 14 rfl rfl)
theorem dX0_unlikeIn_17 : decode cX0_unlikeIn 17 = .ok (.iload 4, 2) := dk_21 4 (dk_at dksX0_unlikeIn_0 17 rfl rfl)
theorem dX0_unlikeIn_19 : decode cX0_unlikeIn 19 = .ok (.iconst 0, 1) := dk_3 (dk_at dksX0_unlikeIn_0 19 rfl rfl)
theorem dX0_unlikeIn_20 : decode cX0_unlikeIn 20 = .ok (.bastore, 1) := dk_84 (dk_at dksX0_unlikeIn_0 20 rfl rfl)
theorem dX0_unlikeIn_21 : decode cX0_unlikeIn 21 = .ok (.iinc 4 1, 3) := dk_132 4 1 (dk_at dksX0_unlikeIn_0 21 rfl rfl)
theorem dX0_unlikeIn_24 : decode cX0_unlikeIn 24 = .ok (.goto (-21), 3) := dk_167 255 235 (dk_at dksX0_unlikeIn_1 0 rfl rfl)
theorem dX0_unlikeIn_27 : decode cX0_unlikeIn 27 = .ok (.iconst 0, 1) := dk_3 (dk_at dksX0_unlikeIn_1 3 rfl rfl)
theorem dX0_unlikeIn_28 : decode cX0_unlikeIn 28 = .ok (.istore 4, 2) := dk_54 4 (dk_at dksX0_unlikeIn_1 4 rfl rfl)
theorem dX0_unlikeIn_30 : decode cX0_unlikeIn 30 = .ok (.iconst 0, 1) := dk_3 (dk_at dksX0_unlikeIn_1 6 rfl rfl)
theorem dX0_unlikeIn_31 : decode cX0_unlikeIn 31 = .ok (.istore 5, 2) := dk_54 5 (dk_at dksX0_unlikeIn_1 7 rfl rfl)
theorem dX0_unlikeIn_33 : decode cX0_unlikeIn 33 = .ok (.iload 5, 2) := dk_21 5 (dk_at dksX0_unlikeIn_1 9 rfl rfl)
theorem dX0_unlikeIn_35 : decode cX0_unlikeIn 35 = .ok (.aload_n 0, 1) := dk_42 (dk_at dksX0_unlikeIn_1 11 rfl rfl)
theorem dX0_unlikeIn_36 : decode cX0_unlikeIn 36 = .ok (.getfield 38, 3) := dk_180 0 38 (dk_at dksX0_unlikeIn_1 12 rfl rfl)
theorem dX0_unlikeIn_39 : decode cX0_unlikeIn 39 = .ok (.invokevirtual 158, 3) := dk_182 0 158 (dk_at dksX0_unlikeIn_1 15 rfl rfl)
theorem dX0_unlikeIn_42 : decode cX0_unlikeIn 42 = .ok (.if_icmp .gt 54, 3) := dk_163 0 54 (dk_at dksX0_unlikeIn_1 18 rfl rfl)
theorem dX0_unlikeIn_45 : decode cX0_unlikeIn 45 = .ok (.aload_n 0, 1) := dk_42 (dk_at dksX0_unlikeIn_1 21 rfl rfl)
theorem dX0_unlikeIn_46 : decode cX0_unlikeIn 46 = .ok (.iload_n 1, 1) := dk_27 (dk_at dksX0_unlikeIn_1 22 rfl rfl)
theorem dX0_unlikeIn_47 : decode cX0_unlikeIn 47 = .ok (.iload_n 2, 1) := dk_28 (dk_at dksX0_unlikeIn_1 23 rfl rfl)
theorem dX0_unlikeIn_48 : decode cX0_unlikeIn 48 = .ok (.iload 5, 2) := dk_21 5 (dk_at dksX0_unlikeIn_2 0 rfl rfl)
theorem dX0_unlikeIn_50 : decode cX0_unlikeIn 50 = .ok (.invokevirtual 381, 3) := dk_182 1 125 (dk_at dksX0_unlikeIn_2 2 rfl rfl)
theorem dX0_unlikeIn_53 : decode cX0_unlikeIn 53 = .ok (.ifCond .eq 37, 3) := dk_153 0 37 (dk_at dksX0_unlikeIn_2 5 rfl rfl)
theorem dX0_unlikeIn_56 : decode cX0_unlikeIn 56 = .ok (.aload_n 0, 1) := dk_42 (dk_at dksX0_unlikeIn_2 8 rfl rfl)
theorem dX0_unlikeIn_57 : decode cX0_unlikeIn 57 = .ok (.getfield 56, 3) := dk_180 0 56 (dk_at dksX0_unlikeIn_2 9 rfl rfl)
theorem dX0_unlikeIn_60 : decode cX0_unlikeIn 60 = .ok (.aload_n 0, 1) := dk_42 (dk_at dksX0_unlikeIn_2 12 rfl rfl)
theorem dX0_unlikeIn_61 : decode cX0_unlikeIn 61 = .ok (.iload 5, 2) := dk_21 5 (dk_at dksX0_unlikeIn_2 13 rfl rfl)
theorem dX0_unlikeIn_63 : decode cX0_unlikeIn 63 = .ok (.iload_n 3, 1) := dk_29 (dk_at dksX0_unlikeIn_2 15 rfl rfl)
theorem dX0_unlikeIn_64 : decode cX0_unlikeIn 64 = .ok (.invokevirtual 378, 3) := dk_182 1 122 (dk_at dksX0_unlikeIn_2 16 rfl rfl)
theorem dX0_unlikeIn_67 : decode cX0_unlikeIn 67 = .ok (.baload, 1) := dk_51 (dk_at dksX0_unlikeIn_2 19 rfl rfl)
theorem dX0_unlikeIn_68 : decode cX0_unlikeIn 68 = .ok (.ifCond .eq 6, 3) := dk_153 0 6 (dk_at dksX0_unlikeIn_2 20 rfl rfl)
theorem dX0_unlikeIn_71 : decode cX0_unlikeIn 71 = .ok (.goto 19, 3) := dk_167 0 19 (dk_at dksX0_unlikeIn_3 0 rfl rfl)
theorem dX0_unlikeIn_74 : decode cX0_unlikeIn 74 = .ok (.aload_n 0, 1) := dk_42 (dk_at dksX0_unlikeIn_3 3 rfl rfl)
theorem dX0_unlikeIn_75 : decode cX0_unlikeIn 75 = .ok (.getfield 56, 3) := dk_180 0 56 (dk_at dksX0_unlikeIn_3 4 rfl rfl)
theorem dX0_unlikeIn_78 : decode cX0_unlikeIn 78 = .ok (.aload_n 0, 1) := dk_42 (dk_at dksX0_unlikeIn_3 7 rfl rfl)
theorem dX0_unlikeIn_79 : decode cX0_unlikeIn 79 = .ok (.iload 5, 2) := dk_21 5 (dk_at dksX0_unlikeIn_3 8 rfl rfl)
theorem dX0_unlikeIn_81 : decode cX0_unlikeIn 81 = .ok (.iload_n 3, 1) := dk_29 (dk_at dksX0_unlikeIn_3 10 rfl rfl)
theorem dX0_unlikeIn_82 : decode cX0_unlikeIn 82 = .ok (.invokevirtual 378, 3) := dk_182 1 122 (dk_at dksX0_unlikeIn_3 11 rfl rfl)
theorem dX0_unlikeIn_85 : decode cX0_unlikeIn 85 = .ok (.iconst 1, 1) := dk_4 (dk_at dksX0_unlikeIn_3 14 rfl rfl)
theorem dX0_unlikeIn_86 : decode cX0_unlikeIn 86 = .ok (.bastore, 1) := dk_84 (dk_at dksX0_unlikeIn_3 15 rfl rfl)
theorem dX0_unlikeIn_87 : decode cX0_unlikeIn 87 = .ok (.iinc 4 1, 3) := dk_132 4 1 (dk_at dksX0_unlikeIn_3 16 rfl rfl)
theorem dX0_unlikeIn_90 : decode cX0_unlikeIn 90 = .ok (.iinc 5 1, 3) := dk_132 5 1 (dk_at dksX0_unlikeIn_3 19 rfl rfl)
theorem dX0_unlikeIn_93 : decode cX0_unlikeIn 93 = .ok (.goto (-60), 3) := dk_167 255 196 (dk_at dksX0_unlikeIn_4 0 rfl rfl)
theorem dX0_unlikeIn_96 : decode cX0_unlikeIn 96 = .ok (.iload 4, 2) := dk_21 4 (dk_at dksX0_unlikeIn_4 3 rfl rfl)
theorem dX0_unlikeIn_98 : decode cX0_unlikeIn 98 = .ok (.ireturn, 1) := dk_172 (dk_at dksX0_unlikeIn_4 5 rfl rfl)
abbrev cX0_lengthOf : ByteArray := prog_1_method_69_code
def yX0_lengthOf : MethodName := ⟨RX0, "lengthOf", "(II)I"⟩
def dkwX0_lengthOf_1 : List UInt8 := [28, 182, 1, 122, 182, 0, 102, 167, 0, 8, 42, 8, 182, 0, 98, 172]
abbrev dktX0_lengthOf_1 : List UInt8 := dkwX0_lengthOf_1 ++ []
def dkwX0_lengthOf_0 : List UInt8 := [42, 27, 133, 182, 1, 138, 153, 0, 28, 28, 133, 9, 20, 1, 75, 184, 0, 162, 153, 0, 16, 42, 42, 27]
abbrev dktX0_lengthOf_0 : List UInt8 := dkwX0_lengthOf_0 ++ dktX0_lengthOf_1
theorem dksX0_lengthOf_0 : cX0_lengthOf.data.toList.drop 0 = dktX0_lengthOf_0 := by decide +kernel
theorem dksX0_lengthOf_1 : cX0_lengthOf.data.toList.drop 24 = dktX0_lengthOf_1 := dk_seg dksX0_lengthOf_0 24 rfl rfl
theorem dX0_lengthOf_0 : decode cX0_lengthOf 0 = .ok (.aload_n 0, 1) := dk_42 (dk_at dksX0_lengthOf_0 0 rfl rfl)
theorem dX0_lengthOf_1 : decode cX0_lengthOf 1 = .ok (.iload_n 1, 1) := dk_27 (dk_at dksX0_lengthOf_0 1 rfl rfl)
theorem dX0_lengthOf_2 : decode cX0_lengthOf 2 = .ok (.i2l, 1) := dk_133 (dk_at dksX0_lengthOf_0 2 rfl rfl)
theorem dX0_lengthOf_3 : decode cX0_lengthOf 3 = .ok (.invokevirtual 394, 3) := dk_182 1 138 (dk_at dksX0_lengthOf_0 3 rfl rfl)
theorem dX0_lengthOf_6 : decode cX0_lengthOf 6 = .ok (.ifCond .eq 28, 3) := dk_153 0 28 (dk_at dksX0_lengthOf_0 6 rfl rfl)
theorem dX0_lengthOf_9 : decode cX0_lengthOf 9 = .ok (.iload_n 2, 1) := dk_28 (dk_at dksX0_lengthOf_0 9 rfl rfl)
theorem dX0_lengthOf_10 : decode cX0_lengthOf 10 = .ok (.i2l, 1) := dk_133 (dk_at dksX0_lengthOf_0 10 rfl rfl)
theorem dX0_lengthOf_11 : decode cX0_lengthOf 11 = .ok (.lconst 0, 1) := dk_9 (dk_at dksX0_lengthOf_0 11 rfl rfl)
theorem dX0_lengthOf_12 : decode cX0_lengthOf 12 = .ok (.ldc2_w 331, 3) := dk_20 1 75 (dk_at dksX0_lengthOf_0 12 rfl rfl)
theorem dX0_lengthOf_15 : decode cX0_lengthOf 15 = .ok (.invokestatic 162, 3) := dk_184 0 162 (dk_at dksX0_lengthOf_0 15 rfl rfl)
theorem dX0_lengthOf_18 : decode cX0_lengthOf 18 = .ok (.ifCond .eq 16, 3) := dk_153 0 16 (dk_at dksX0_lengthOf_0 18 rfl rfl)
theorem dX0_lengthOf_21 : decode cX0_lengthOf 21 = .ok (.aload_n 0, 1) := dk_42 (dk_at dksX0_lengthOf_0 21 rfl rfl)
theorem dX0_lengthOf_22 : decode cX0_lengthOf 22 = .ok (.aload_n 0, 1) := dk_42 (dk_at dksX0_lengthOf_0 22 rfl rfl)
theorem dX0_lengthOf_23 : decode cX0_lengthOf 23 = .ok (.iload_n 1, 1) := dk_27 (dk_at dksX0_lengthOf_0 23 rfl rfl)
theorem dX0_lengthOf_24 : decode cX0_lengthOf 24 = .ok (.iload_n 2, 1) := dk_28 (dk_at dksX0_lengthOf_1 0 rfl rfl)
theorem dX0_lengthOf_25 : decode cX0_lengthOf 25 = .ok (.invokevirtual 378, 3) := dk_182 1 122 (dk_at dksX0_lengthOf_1 1 rfl rfl)
theorem dX0_lengthOf_28 : decode cX0_lengthOf 28 = .ok (.invokevirtual 102, 3) := dk_182 0 102 (dk_at dksX0_lengthOf_1 4 rfl rfl)
theorem dX0_lengthOf_31 : decode cX0_lengthOf 31 = .ok (.goto 8, 3) := dk_167 0 8 (dk_at dksX0_lengthOf_1 7 rfl rfl)
theorem dX0_lengthOf_34 : decode cX0_lengthOf 34 = .ok (.aload_n 0, 1) := dk_42 (dk_at dksX0_lengthOf_1 10 rfl rfl)
theorem dX0_lengthOf_35 : decode cX0_lengthOf 35 = .ok (.iconst 5, 1) := dk_8 (dk_at dksX0_lengthOf_1 11 rfl rfl)
theorem dX0_lengthOf_36 : decode cX0_lengthOf 36 = .ok (.invokevirtual 98, 3) := dk_182 0 98 (dk_at dksX0_lengthOf_1 12 rfl rfl)
theorem dX0_lengthOf_39 : decode cX0_lengthOf 39 = .ok (.ireturn, 1) := dk_172 (dk_at dksX0_lengthOf_1 15 rfl rfl)
abbrev cX0_areWords : ByteArray := prog_1_method_21_code
def yX0_areWords : MethodName := ⟨RX0, "areWords", "(J)Z"⟩
def dkwX0_areWords_0 : List UInt8 := [31, 9, 42, 180, 0, 38, 182, 0, 158, 133, 184, 0, 162, 172]
abbrev dktX0_areWords_0 : List UInt8 := dkwX0_areWords_0 ++ []
theorem dksX0_areWords_0 : cX0_areWords.data.toList.drop 0 = dktX0_areWords_0 := by decide +kernel
theorem dX0_areWords_0 : decode cX0_areWords 0 = .ok (.lload_n 1, 1) := dk_31 (dk_at dksX0_areWords_0 0 rfl rfl)
theorem dX0_areWords_1 : decode cX0_areWords 1 = .ok (.lconst 0, 1) := dk_9 (dk_at dksX0_areWords_0 1 rfl rfl)
theorem dX0_areWords_2 : decode cX0_areWords 2 = .ok (.aload_n 0, 1) := dk_42 (dk_at dksX0_areWords_0 2 rfl rfl)
theorem dX0_areWords_3 : decode cX0_areWords 3 = .ok (.getfield 38, 3) := dk_180 0 38 (dk_at dksX0_areWords_0 3 rfl rfl)
theorem dX0_areWords_6 : decode cX0_areWords 6 = .ok (.invokevirtual 158, 3) := dk_182 0 158 (dk_at dksX0_areWords_0 6 rfl rfl)
theorem dX0_areWords_9 : decode cX0_areWords 9 = .ok (.i2l, 1) := dk_133 (dk_at dksX0_areWords_0 9 rfl rfl)
theorem dX0_areWords_10 : decode cX0_areWords 10 = .ok (.invokestatic 162, 3) := dk_184 0 162 (dk_at dksX0_areWords_0 10 rfl rfl)
theorem dX0_areWords_13 : decode cX0_areWords 13 = .ok (.ireturn, 1) := dk_172 (dk_at dksX0_areWords_0 13 rfl rfl)
abbrev cX0_daysFor : ByteArray := prog_1_method_70_code
def yX0_daysFor : MethodName := ⟨RX0, "daysFor", "(II)I"⟩
def dkwX0_daysFor_2 : List UInt8 := [182, 0, 102, 172, 132, 3, 1, 167, 255, 231, 42, 16, 8, 182, 0, 98, 172]
abbrev dktX0_daysFor_2 : List UInt8 := dkwX0_daysFor_2 ++ []
def dkwX0_daysFor_1 : List UInt8 := [182, 0, 98, 172, 3, 62, 29, 16, 99, 163, 0, 25, 42, 27, 29, 182, 1, 122, 28, 161, 0, 9, 42, 29]
abbrev dktX0_daysFor_1 : List UInt8 := dkwX0_daysFor_1 ++ dktX0_daysFor_2
def dkwX0_daysFor_0 : List UInt8 := [42, 27, 133, 182, 1, 138, 153, 0, 15, 28, 133, 9, 20, 1, 142, 184, 0, 162, 154, 0, 9, 42, 8]
abbrev dktX0_daysFor_0 : List UInt8 := dkwX0_daysFor_0 ++ dktX0_daysFor_1
theorem dksX0_daysFor_0 : cX0_daysFor.data.toList.drop 0 = dktX0_daysFor_0 := by decide +kernel
theorem dksX0_daysFor_1 : cX0_daysFor.data.toList.drop 23 = dktX0_daysFor_1 := dk_seg dksX0_daysFor_0 23 rfl rfl
theorem dksX0_daysFor_2 : cX0_daysFor.data.toList.drop 47 = dktX0_daysFor_2 := dk_seg dksX0_daysFor_1 24 rfl rfl
theorem dX0_daysFor_0 : decode cX0_daysFor 0 = .ok (.aload_n 0, 1) := dk_42 (dk_at dksX0_daysFor_0 0 rfl rfl)
theorem dX0_daysFor_1 : decode cX0_daysFor 1 = .ok (.iload_n 1, 1) := dk_27 (dk_at dksX0_daysFor_0 1 rfl rfl)
theorem dX0_daysFor_2 : decode cX0_daysFor 2 = .ok (.i2l, 1) := dk_133 (dk_at dksX0_daysFor_0 2 rfl rfl)
theorem dX0_daysFor_3 : decode cX0_daysFor 3 = .ok (.invokevirtual 394, 3) := dk_182 1 138 (dk_at dksX0_daysFor_0 3 rfl rfl)
theorem dX0_daysFor_6 : decode cX0_daysFor 6 = .ok (.ifCond .eq 15, 3) := dk_153 0 15 (dk_at dksX0_daysFor_0 6 rfl rfl)
theorem dX0_daysFor_9 : decode cX0_daysFor 9 = .ok (.iload_n 2, 1) := dk_28 (dk_at dksX0_daysFor_0 9 rfl rfl)
theorem dX0_daysFor_10 : decode cX0_daysFor 10 = .ok (.i2l, 1) := dk_133 (dk_at dksX0_daysFor_0 10 rfl rfl)
theorem dX0_daysFor_11 : decode cX0_daysFor 11 = .ok (.lconst 0, 1) := dk_9 (dk_at dksX0_daysFor_0 11 rfl rfl)
theorem dX0_daysFor_12 : decode cX0_daysFor 12 = .ok (.ldc2_w 398, 3) := dk_20 1 142 (dk_at dksX0_daysFor_0 12 rfl rfl)
theorem dX0_daysFor_15 : decode cX0_daysFor 15 = .ok (.invokestatic 162, 3) := dk_184 0 162 (dk_at dksX0_daysFor_0 15 rfl rfl)
theorem dX0_daysFor_18 : decode cX0_daysFor 18 = .ok (.ifCond .ne 9, 3) := dk_154 0 9 (dk_at dksX0_daysFor_0 18 rfl rfl)
theorem dX0_daysFor_21 : decode cX0_daysFor 21 = .ok (.aload_n 0, 1) := dk_42 (dk_at dksX0_daysFor_0 21 rfl rfl)
theorem dX0_daysFor_22 : decode cX0_daysFor 22 = .ok (.iconst 5, 1) := dk_8 (dk_at dksX0_daysFor_0 22 rfl rfl)
theorem dX0_daysFor_23 : decode cX0_daysFor 23 = .ok (.invokevirtual 98, 3) := dk_182 0 98 (dk_at dksX0_daysFor_1 0 rfl rfl)
theorem dX0_daysFor_26 : decode cX0_daysFor 26 = .ok (.ireturn, 1) := dk_172 (dk_at dksX0_daysFor_1 3 rfl rfl)
theorem dX0_daysFor_27 : decode cX0_daysFor 27 = .ok (.iconst 0, 1) := dk_3 (dk_at dksX0_daysFor_1 4 rfl rfl)
theorem dX0_daysFor_28 : decode cX0_daysFor 28 = .ok (.istore_n 3, 1) := dk_62 (dk_at dksX0_daysFor_1 5 rfl rfl)
theorem dX0_daysFor_29 : decode cX0_daysFor 29 = .ok (.iload_n 3, 1) := dk_29 (dk_at dksX0_daysFor_1 6 rfl rfl)
theorem dX0_daysFor_30 : decode cX0_daysFor 30 = .ok (.bipush 99, 2) := dk_16 99 (dk_at dksX0_daysFor_1 7 rfl rfl)
theorem dX0_daysFor_32 : decode cX0_daysFor 32 = .ok (.if_icmp .gt 25, 3) := dk_163 0 25 (dk_at dksX0_daysFor_1 9 rfl rfl)
theorem dX0_daysFor_35 : decode cX0_daysFor 35 = .ok (.aload_n 0, 1) := dk_42 (dk_at dksX0_daysFor_1 12 rfl rfl)
theorem dX0_daysFor_36 : decode cX0_daysFor 36 = .ok (.iload_n 1, 1) := dk_27 (dk_at dksX0_daysFor_1 13 rfl rfl)
theorem dX0_daysFor_37 : decode cX0_daysFor 37 = .ok (.iload_n 3, 1) := dk_29 (dk_at dksX0_daysFor_1 14 rfl rfl)
theorem dX0_daysFor_38 : decode cX0_daysFor 38 = .ok (.invokevirtual 378, 3) := dk_182 1 122 (dk_at dksX0_daysFor_1 15 rfl rfl)
theorem dX0_daysFor_41 : decode cX0_daysFor 41 = .ok (.iload_n 2, 1) := dk_28 (dk_at dksX0_daysFor_1 18 rfl rfl)
theorem dX0_daysFor_42 : decode cX0_daysFor 42 = .ok (.if_icmp .lt 9, 3) := dk_161 0 9 (dk_at dksX0_daysFor_1 19 rfl rfl)
theorem dX0_daysFor_45 : decode cX0_daysFor 45 = .ok (.aload_n 0, 1) := dk_42 (dk_at dksX0_daysFor_1 22 rfl rfl)
theorem dX0_daysFor_46 : decode cX0_daysFor 46 = .ok (.iload_n 3, 1) := dk_29 (dk_at dksX0_daysFor_1 23 rfl rfl)
theorem dX0_daysFor_47 : decode cX0_daysFor 47 = .ok (.invokevirtual 102, 3) := dk_182 0 102 (dk_at dksX0_daysFor_2 0 rfl rfl)
theorem dX0_daysFor_50 : decode cX0_daysFor 50 = .ok (.ireturn, 1) := dk_172 (dk_at dksX0_daysFor_2 3 rfl rfl)
theorem dX0_daysFor_51 : decode cX0_daysFor 51 = .ok (.iinc 3 1, 3) := dk_132 3 1 (dk_at dksX0_daysFor_2 4 rfl rfl)
theorem dX0_daysFor_54 : decode cX0_daysFor 54 = .ok (.goto (-25), 3) := dk_167 255 231 (dk_at dksX0_daysFor_2 7 rfl rfl)
theorem dX0_daysFor_57 : decode cX0_daysFor 57 = .ok (.aload_n 0, 1) := dk_42 (dk_at dksX0_daysFor_2 10 rfl rfl)
theorem dX0_daysFor_58 : decode cX0_daysFor 58 = .ok (.bipush 8, 2) := dk_16 8 (dk_at dksX0_daysFor_2 11 rfl rfl)
theorem dX0_daysFor_60 : decode cX0_daysFor 60 = .ok (.invokevirtual 98, 3) := dk_182 0 98 (dk_at dksX0_daysFor_2 13 rfl rfl)
theorem dX0_daysFor_63 : decode cX0_daysFor 63 = .ok (.ireturn, 1) := dk_172 (dk_at dksX0_daysFor_2 16 rfl rfl)
abbrev cX0_round : ByteArray := prog_1_method_74_code
def yX0_round : MethodName := ⟨RX0, "round", "(I)I"⟩
def dkwX0_round_2 : List UInt8 := [42, 16, 8, 182, 0, 98, 172, 132, 2, 1, 167, 255, 217, 42, 42, 27, 182, 1, 153, 182, 0, 102, 172]
abbrev dktX0_round_2 : List UInt8 := dkwX0_round_2 ++ []
def dkwX0_round_1 : List UInt8 := [180, 0, 152, 162, 0, 34, 27, 28, 184, 1, 23, 153, 0, 20, 42, 4, 28, 120, 182, 1, 150, 154, 0, 10]
abbrev dktX0_round_1 : List UInt8 := dkwX0_round_1 ++ dktX0_round_2
def dkwX0_round_0 : List UInt8 := [42, 27, 133, 182, 1, 161, 154, 0, 9, 42, 8, 182, 0, 98, 172, 3, 61, 28, 42, 180, 0, 38]
abbrev dktX0_round_0 : List UInt8 := dkwX0_round_0 ++ dktX0_round_1
theorem dksX0_round_0 : cX0_round.data.toList.drop 0 = dktX0_round_0 := by decide +kernel
theorem dksX0_round_1 : cX0_round.data.toList.drop 22 = dktX0_round_1 := dk_seg dksX0_round_0 22 rfl rfl
theorem dksX0_round_2 : cX0_round.data.toList.drop 46 = dktX0_round_2 := dk_seg dksX0_round_1 24 rfl rfl
theorem dX0_round_0 : decode cX0_round 0 = .ok (.aload_n 0, 1) := dk_42 (dk_at dksX0_round_0 0 rfl rfl)
theorem dX0_round_1 : decode cX0_round 1 = .ok (.iload_n 1, 1) := dk_27 (dk_at dksX0_round_0 1 rfl rfl)
theorem dX0_round_2 : decode cX0_round 2 = .ok (.i2l, 1) := dk_133 (dk_at dksX0_round_0 2 rfl rfl)
theorem dX0_round_3 : decode cX0_round 3 = .ok (.invokevirtual 417, 3) := dk_182 1 161 (dk_at dksX0_round_0 3 rfl rfl)
theorem dX0_round_6 : decode cX0_round 6 = .ok (.ifCond .ne 9, 3) := dk_154 0 9 (dk_at dksX0_round_0 6 rfl rfl)
theorem dX0_round_9 : decode cX0_round 9 = .ok (.aload_n 0, 1) := dk_42 (dk_at dksX0_round_0 9 rfl rfl)
theorem dX0_round_10 : decode cX0_round 10 = .ok (.iconst 5, 1) := dk_8 (dk_at dksX0_round_0 10 rfl rfl)
theorem dX0_round_11 : decode cX0_round 11 = .ok (.invokevirtual 98, 3) := dk_182 0 98 (dk_at dksX0_round_0 11 rfl rfl)
theorem dX0_round_14 : decode cX0_round 14 = .ok (.ireturn, 1) := dk_172 (dk_at dksX0_round_0 14 rfl rfl)
theorem dX0_round_15 : decode cX0_round 15 = .ok (.iconst 0, 1) := dk_3 (dk_at dksX0_round_0 15 rfl rfl)
theorem dX0_round_16 : decode cX0_round 16 = .ok (.istore_n 2, 1) := dk_61 (dk_at dksX0_round_0 16 rfl rfl)
theorem dX0_round_17 : decode cX0_round 17 = .ok (.iload_n 2, 1) := dk_28 (dk_at dksX0_round_0 17 rfl rfl)
theorem dX0_round_18 : decode cX0_round 18 = .ok (.aload_n 0, 1) := dk_42 (dk_at dksX0_round_0 18 rfl rfl)
theorem dX0_round_19 : decode cX0_round 19 = .ok (.getfield 38, 3) := dk_180 0 38 (dk_at dksX0_round_0 19 rfl rfl)
theorem dX0_round_22 : decode cX0_round 22 = .ok (.getfield 152, 3) := dk_180 0 152 (dk_at dksX0_round_1 0 rfl rfl)
theorem dX0_round_25 : decode cX0_round 25 = .ok (.if_icmp .ge 34, 3) := dk_162 0 34 (dk_at dksX0_round_1 3 rfl rfl)
theorem dX0_round_28 : decode cX0_round 28 = .ok (.iload_n 1, 1) := dk_27 (dk_at dksX0_round_1 6 rfl rfl)
theorem dX0_round_29 : decode cX0_round 29 = .ok (.iload_n 2, 1) := dk_28 (dk_at dksX0_round_1 7 rfl rfl)
theorem dX0_round_30 : decode cX0_round 30 = .ok (.invokestatic 279, 3) := dk_184 1 23 (dk_at dksX0_round_1 8 rfl rfl)
theorem dX0_round_33 : decode cX0_round 33 = .ok (.ifCond .eq 20, 3) := dk_153 0 20 (dk_at dksX0_round_1 11 rfl rfl)
theorem dX0_round_36 : decode cX0_round 36 = .ok (.aload_n 0, 1) := dk_42 (dk_at dksX0_round_1 14 rfl rfl)
theorem dX0_round_37 : decode cX0_round 37 = .ok (.iconst 1, 1) := dk_4 (dk_at dksX0_round_1 15 rfl rfl)
theorem dX0_round_38 : decode cX0_round 38 = .ok (.iload_n 2, 1) := dk_28 (dk_at dksX0_round_1 16 rfl rfl)
theorem dX0_round_39 : decode cX0_round 39 = .ok (.ishl, 1) := dk_120 (dk_at dksX0_round_1 17 rfl rfl)
theorem dX0_round_40 : decode cX0_round 40 = .ok (.invokevirtual 406, 3) := dk_182 1 150 (dk_at dksX0_round_1 18 rfl rfl)
theorem dX0_round_43 : decode cX0_round 43 = .ok (.ifCond .ne 10, 3) := dk_154 0 10 (dk_at dksX0_round_1 21 rfl rfl)
theorem dX0_round_46 : decode cX0_round 46 = .ok (.aload_n 0, 1) := dk_42 (dk_at dksX0_round_2 0 rfl rfl)
theorem dX0_round_47 : decode cX0_round 47 = .ok (.bipush 8, 2) := dk_16 8 (dk_at dksX0_round_2 1 rfl rfl)
theorem dX0_round_49 : decode cX0_round 49 = .ok (.invokevirtual 98, 3) := dk_182 0 98 (dk_at dksX0_round_2 3 rfl rfl)
theorem dX0_round_52 : decode cX0_round 52 = .ok (.ireturn, 1) := dk_172 (dk_at dksX0_round_2 6 rfl rfl)
theorem dX0_round_53 : decode cX0_round 53 = .ok (.iinc 2 1, 3) := dk_132 2 1 (dk_at dksX0_round_2 7 rfl rfl)
theorem dX0_round_56 : decode cX0_round 56 = .ok (.goto (-39), 3) := dk_167 255 217 (dk_at dksX0_round_2 10 rfl rfl)
theorem dX0_round_59 : decode cX0_round 59 = .ok (.aload_n 0, 1) := dk_42 (dk_at dksX0_round_2 13 rfl rfl)
theorem dX0_round_60 : decode cX0_round 60 = .ok (.aload_n 0, 1) := dk_42 (dk_at dksX0_round_2 14 rfl rfl)
theorem dX0_round_61 : decode cX0_round 61 = .ok (.iload_n 1, 1) := dk_27 (dk_at dksX0_round_2 15 rfl rfl)
theorem dX0_round_62 : decode cX0_round 62 = .ok (.invokevirtual 409, 3) := dk_182 1 153 (dk_at dksX0_round_2 16 rfl rfl)
theorem dX0_round_65 : decode cX0_round 65 = .ok (.invokevirtual 102, 3) := dk_182 0 102 (dk_at dksX0_round_2 19 rfl rfl)
theorem dX0_round_68 : decode cX0_round 68 = .ok (.ireturn, 1) := dk_172 (dk_at dksX0_round_2 22 rfl rfl)
abbrev cX0_arePeople : ByteArray := prog_1_method_22_code
def yX0_arePeople : MethodName := ⟨RX0, "arePeople", "(J)Z"⟩
def dkwX0_arePeople_0 : List UInt8 := [31, 9, 10, 42, 180, 0, 38, 180, 0, 152, 121, 10, 101, 184, 0, 162, 172]
abbrev dktX0_arePeople_0 : List UInt8 := dkwX0_arePeople_0 ++ []
theorem dksX0_arePeople_0 : cX0_arePeople.data.toList.drop 0 = dktX0_arePeople_0 := by decide +kernel
theorem dX0_arePeople_0 : decode cX0_arePeople 0 = .ok (.lload_n 1, 1) := dk_31 (dk_at dksX0_arePeople_0 0 rfl rfl)
theorem dX0_arePeople_1 : decode cX0_arePeople 1 = .ok (.lconst 0, 1) := dk_9 (dk_at dksX0_arePeople_0 1 rfl rfl)
theorem dX0_arePeople_2 : decode cX0_arePeople 2 = .ok (.lconst 1, 1) := dk_10 (dk_at dksX0_arePeople_0 2 rfl rfl)
theorem dX0_arePeople_3 : decode cX0_arePeople 3 = .ok (.aload_n 0, 1) := dk_42 (dk_at dksX0_arePeople_0 3 rfl rfl)
theorem dX0_arePeople_4 : decode cX0_arePeople 4 = .ok (.getfield 38, 3) := dk_180 0 38 (dk_at dksX0_arePeople_0 4 rfl rfl)
theorem dX0_arePeople_7 : decode cX0_arePeople 7 = .ok (.getfield 152, 3) := dk_180 0 152 (dk_at dksX0_arePeople_0 7 rfl rfl)
theorem dX0_arePeople_10 : decode cX0_arePeople 10 = .ok (.lshl, 1) := dk_121 (dk_at dksX0_arePeople_0 10 rfl rfl)
theorem dX0_arePeople_11 : decode cX0_arePeople 11 = .ok (.lconst 1, 1) := dk_10 (dk_at dksX0_arePeople_0 11 rfl rfl)
theorem dX0_arePeople_12 : decode cX0_arePeople 12 = .ok (.lsub, 1) := dk_101 (dk_at dksX0_arePeople_0 12 rfl rfl)
theorem dX0_arePeople_13 : decode cX0_arePeople 13 = .ok (.invokestatic 162, 3) := dk_184 0 162 (dk_at dksX0_arePeople_0 13 rfl rfl)
theorem dX0_arePeople_16 : decode cX0_arePeople 16 = .ok (.ireturn, 1) := dk_172 (dk_at dksX0_arePeople_0 16 rfl rfl)
abbrev cX0_canCut : ByteArray := prog_1_method_72_code
def yX0_canCut : MethodName := ⟨RX0, "canCut", "(I)Z"⟩
def dkwX0_canCut_0 : List UInt8 := [42, 180, 0, 38, 42, 27, 182, 1, 144, 182, 1, 147, 154, 0, 7, 4, 167, 0, 4, 3, 172]
abbrev dktX0_canCut_0 : List UInt8 := dkwX0_canCut_0 ++ []
theorem dksX0_canCut_0 : cX0_canCut.data.toList.drop 0 = dktX0_canCut_0 := by decide +kernel
theorem dX0_canCut_0 : decode cX0_canCut 0 = .ok (.aload_n 0, 1) := dk_42 (dk_at dksX0_canCut_0 0 rfl rfl)
theorem dX0_canCut_1 : decode cX0_canCut 1 = .ok (.getfield 38, 3) := dk_180 0 38 (dk_at dksX0_canCut_0 1 rfl rfl)
theorem dX0_canCut_4 : decode cX0_canCut 4 = .ok (.aload_n 0, 1) := dk_42 (dk_at dksX0_canCut_0 4 rfl rfl)
theorem dX0_canCut_5 : decode cX0_canCut 5 = .ok (.iload_n 1, 1) := dk_27 (dk_at dksX0_canCut_0 5 rfl rfl)
theorem dX0_canCut_6 : decode cX0_canCut 6 = .ok (.invokevirtual 400, 3) := dk_182 1 144 (dk_at dksX0_canCut_0 6 rfl rfl)
theorem dX0_canCut_9 : decode cX0_canCut 9 = .ok (.invokevirtual 403, 3) := dk_182 1 147 (dk_at dksX0_canCut_0 9 rfl rfl)
theorem dX0_canCut_12 : decode cX0_canCut 12 = .ok (.ifCond .ne 7, 3) := dk_154 0 7 (dk_at dksX0_canCut_0 12 rfl rfl)
theorem dX0_canCut_15 : decode cX0_canCut 15 = .ok (.iconst 1, 1) := dk_4 (dk_at dksX0_canCut_0 15 rfl rfl)
theorem dX0_canCut_16 : decode cX0_canCut 16 = .ok (.goto 4, 3) := dk_167 0 4 (dk_at dksX0_canCut_0 16 rfl rfl)
theorem dX0_canCut_19 : decode cX0_canCut 19 = .ok (.iconst 0, 1) := dk_3 (dk_at dksX0_canCut_0 19 rfl rfl)
theorem dX0_canCut_20 : decode cX0_canCut 20 = .ok (.ireturn, 1) := dk_172 (dk_at dksX0_canCut_0 20 rfl rfl)
abbrev cX0_wordsOf : ByteArray := prog_1_method_71_code
def yX0_wordsOf : MethodName := ⟨RX0, "wordsOf", "(I)I"⟩
def dkwX0_wordsOf_2 : List UInt8 := [28, 172]
abbrev dktX0_wordsOf_2 : List UInt8 := dkwX0_wordsOf_2 ++ []
def dkwX0_wordsOf_1 : List UInt8 := [42, 180, 0, 38, 180, 0, 211, 29, 50, 180, 1, 17, 167, 0, 4, 3, 128, 61, 132, 3, 1, 167, 255, 215]
abbrev dktX0_wordsOf_1 : List UInt8 := dkwX0_wordsOf_1 ++ dktX0_wordsOf_2
def dkwX0_wordsOf_0 : List UInt8 := [3, 61, 3, 62, 29, 42, 180, 0, 38, 180, 0, 152, 162, 0, 36, 28, 27, 29, 184, 1, 23, 153, 0, 18]
abbrev dktX0_wordsOf_0 : List UInt8 := dkwX0_wordsOf_0 ++ dktX0_wordsOf_1
theorem dksX0_wordsOf_0 : cX0_wordsOf.data.toList.drop 0 = dktX0_wordsOf_0 := by decide +kernel
theorem dksX0_wordsOf_1 : cX0_wordsOf.data.toList.drop 24 = dktX0_wordsOf_1 := dk_seg dksX0_wordsOf_0 24 rfl rfl
theorem dksX0_wordsOf_2 : cX0_wordsOf.data.toList.drop 48 = dktX0_wordsOf_2 := dk_seg dksX0_wordsOf_1 24 rfl rfl
theorem dX0_wordsOf_0 : decode cX0_wordsOf 0 = .ok (.iconst 0, 1) := dk_3 (dk_at dksX0_wordsOf_0 0 rfl rfl)
theorem dX0_wordsOf_1 : decode cX0_wordsOf 1 = .ok (.istore_n 2, 1) := dk_61 (dk_at dksX0_wordsOf_0 1 rfl rfl)
theorem dX0_wordsOf_2 : decode cX0_wordsOf 2 = .ok (.iconst 0, 1) := dk_3 (dk_at dksX0_wordsOf_0 2 rfl rfl)
theorem dX0_wordsOf_3 : decode cX0_wordsOf 3 = .ok (.istore_n 3, 1) := dk_62 (dk_at dksX0_wordsOf_0 3 rfl rfl)
theorem dX0_wordsOf_4 : decode cX0_wordsOf 4 = .ok (.iload_n 3, 1) := dk_29 (dk_at dksX0_wordsOf_0 4 rfl rfl)
theorem dX0_wordsOf_5 : decode cX0_wordsOf 5 = .ok (.aload_n 0, 1) := dk_42 (dk_at dksX0_wordsOf_0 5 rfl rfl)
theorem dX0_wordsOf_6 : decode cX0_wordsOf 6 = .ok (.getfield 38, 3) := dk_180 0 38 (dk_at dksX0_wordsOf_0 6 rfl rfl)
theorem dX0_wordsOf_9 : decode cX0_wordsOf 9 = .ok (.getfield 152, 3) := dk_180 0 152 (dk_at dksX0_wordsOf_0 9 rfl rfl)
theorem dX0_wordsOf_12 : decode cX0_wordsOf 12 = .ok (.if_icmp .ge 36, 3) := dk_162 0 36 (dk_at dksX0_wordsOf_0 12 rfl rfl)
theorem dX0_wordsOf_15 : decode cX0_wordsOf 15 = .ok (.iload_n 2, 1) := dk_28 (dk_at dksX0_wordsOf_0 15 rfl rfl)
theorem dX0_wordsOf_16 : decode cX0_wordsOf 16 = .ok (.iload_n 1, 1) := dk_27 (dk_at dksX0_wordsOf_0 16 rfl rfl)
theorem dX0_wordsOf_17 : decode cX0_wordsOf 17 = .ok (.iload_n 3, 1) := dk_29 (dk_at dksX0_wordsOf_0 17 rfl rfl)
theorem dX0_wordsOf_18 : decode cX0_wordsOf 18 = .ok (.invokestatic 279, 3) := dk_184 1 23 (dk_at dksX0_wordsOf_0 18 rfl rfl)
theorem dX0_wordsOf_21 : decode cX0_wordsOf 21 = .ok (.ifCond .eq 18, 3) := dk_153 0 18 (dk_at dksX0_wordsOf_0 21 rfl rfl)
theorem dX0_wordsOf_24 : decode cX0_wordsOf 24 = .ok (.aload_n 0, 1) := dk_42 (dk_at dksX0_wordsOf_1 0 rfl rfl)
theorem dX0_wordsOf_25 : decode cX0_wordsOf 25 = .ok (.getfield 38, 3) := dk_180 0 38 (dk_at dksX0_wordsOf_1 1 rfl rfl)
theorem dX0_wordsOf_28 : decode cX0_wordsOf 28 = .ok (.getfield 211, 3) := dk_180 0 211 (dk_at dksX0_wordsOf_1 4 rfl rfl)
theorem dX0_wordsOf_31 : decode cX0_wordsOf 31 = .ok (.iload_n 3, 1) := dk_29 (dk_at dksX0_wordsOf_1 7 rfl rfl)
theorem dX0_wordsOf_32 : decode cX0_wordsOf 32 = .ok (.aaload, 1) := dk_50 (dk_at dksX0_wordsOf_1 8 rfl rfl)
theorem dX0_wordsOf_33 : decode cX0_wordsOf 33 = .ok (.getfield 273, 3) := dk_180 1 17 (dk_at dksX0_wordsOf_1 9 rfl rfl)
theorem dX0_wordsOf_36 : decode cX0_wordsOf 36 = .ok (.goto 4, 3) := dk_167 0 4 (dk_at dksX0_wordsOf_1 12 rfl rfl)
theorem dX0_wordsOf_39 : decode cX0_wordsOf 39 = .ok (.iconst 0, 1) := dk_3 (dk_at dksX0_wordsOf_1 15 rfl rfl)
theorem dX0_wordsOf_40 : decode cX0_wordsOf 40 = .ok (.ior, 1) := dk_128 (dk_at dksX0_wordsOf_1 16 rfl rfl)
theorem dX0_wordsOf_41 : decode cX0_wordsOf 41 = .ok (.istore_n 2, 1) := dk_61 (dk_at dksX0_wordsOf_1 17 rfl rfl)
theorem dX0_wordsOf_42 : decode cX0_wordsOf 42 = .ok (.iinc 3 1, 3) := dk_132 3 1 (dk_at dksX0_wordsOf_1 18 rfl rfl)
theorem dX0_wordsOf_45 : decode cX0_wordsOf 45 = .ok (.goto (-41), 3) := dk_167 255 215 (dk_at dksX0_wordsOf_1 21 rfl rfl)
theorem dX0_wordsOf_48 : decode cX0_wordsOf 48 = .ok (.iload_n 2, 1) := dk_28 (dk_at dksX0_wordsOf_2 0 rfl rfl)
theorem dX0_wordsOf_49 : decode cX0_wordsOf 49 = .ok (.ireturn, 1) := dk_172 (dk_at dksX0_wordsOf_2 1 rfl rfl)
abbrev cX0_roundsOf : ByteArray := prog_1_method_73_code
def yX0_roundsOf : MethodName := ⟨RX0, "roundsOf", "(I)I"⟩
def dkwX0_roundsOf_2 : List UInt8 := [184, 1, 156, 54, 4, 21, 5, 154, 0, 6, 21, 4, 172, 21, 5, 4, 100, 29, 126, 54, 5, 167, 255, 210]
abbrev dktX0_roundsOf_2 : List UInt8 := dkwX0_roundsOf_2 ++ []
def dkwX0_roundsOf_1 : List UInt8 := [21, 5, 28, 128, 182, 1, 150, 153, 0, 22, 21, 4, 4, 42, 29, 21, 5, 2, 130, 126, 182, 1, 153, 96]
abbrev dktX0_roundsOf_1 : List UInt8 := dkwX0_roundsOf_1 ++ dktX0_roundsOf_2
def dkwX0_roundsOf_0 : List UInt8 := [27, 154, 0, 5, 3, 172, 27, 27, 116, 126, 61, 27, 28, 130, 62, 16, 7, 54, 4, 29, 54, 5, 42]
abbrev dktX0_roundsOf_0 : List UInt8 := dkwX0_roundsOf_0 ++ dktX0_roundsOf_1
theorem dksX0_roundsOf_0 : cX0_roundsOf.data.toList.drop 0 = dktX0_roundsOf_0 := by decide +kernel
theorem dksX0_roundsOf_1 : cX0_roundsOf.data.toList.drop 23 = dktX0_roundsOf_1 := dk_seg dksX0_roundsOf_0 23 rfl rfl
theorem dksX0_roundsOf_2 : cX0_roundsOf.data.toList.drop 47 = dktX0_roundsOf_2 := dk_seg dksX0_roundsOf_1 24 rfl rfl
theorem dX0_roundsOf_0 : decode cX0_roundsOf 0 = .ok (.iload_n 1, 1) := dk_27 (dk_at dksX0_roundsOf_0 0 rfl rfl)
theorem dX0_roundsOf_1 : decode cX0_roundsOf 1 = .ok (.ifCond .ne 5, 3) := dk_154 0 5 (dk_at dksX0_roundsOf_0 1 rfl rfl)
theorem dX0_roundsOf_4 : decode cX0_roundsOf 4 = .ok (.iconst 0, 1) := dk_3 (dk_at dksX0_roundsOf_0 4 rfl rfl)
theorem dX0_roundsOf_5 : decode cX0_roundsOf 5 = .ok (.ireturn, 1) := dk_172 (dk_at dksX0_roundsOf_0 5 rfl rfl)
theorem dX0_roundsOf_6 : decode cX0_roundsOf 6 = .ok (.iload_n 1, 1) := dk_27 (dk_at dksX0_roundsOf_0 6 rfl rfl)
theorem dX0_roundsOf_7 : decode cX0_roundsOf 7 = .ok (.iload_n 1, 1) := dk_27 (dk_at dksX0_roundsOf_0 7 rfl rfl)
theorem dX0_roundsOf_8 : decode cX0_roundsOf 8 = .ok (.ineg, 1) := dk_116 (dk_at dksX0_roundsOf_0 8 rfl rfl)
theorem dX0_roundsOf_9 : decode cX0_roundsOf 9 = .ok (.iand, 1) := dk_126 (dk_at dksX0_roundsOf_0 9 rfl rfl)
theorem dX0_roundsOf_10 : decode cX0_roundsOf 10 = .ok (.istore_n 2, 1) := dk_61 (dk_at dksX0_roundsOf_0 10 rfl rfl)
theorem dX0_roundsOf_11 : decode cX0_roundsOf 11 = .ok (.iload_n 1, 1) := dk_27 (dk_at dksX0_roundsOf_0 11 rfl rfl)
theorem dX0_roundsOf_12 : decode cX0_roundsOf 12 = .ok (.iload_n 2, 1) := dk_28 (dk_at dksX0_roundsOf_0 12 rfl rfl)
theorem dX0_roundsOf_13 : decode cX0_roundsOf 13 = .ok (.ixor, 1) := dk_130 (dk_at dksX0_roundsOf_0 13 rfl rfl)
theorem dX0_roundsOf_14 : decode cX0_roundsOf 14 = .ok (.istore_n 3, 1) := dk_62 (dk_at dksX0_roundsOf_0 14 rfl rfl)
theorem dX0_roundsOf_15 : decode cX0_roundsOf 15 = .ok (.bipush 7, 2) := dk_16 7 (dk_at dksX0_roundsOf_0 15 rfl rfl)
theorem dX0_roundsOf_17 : decode cX0_roundsOf 17 = .ok (.istore 4, 2) := dk_54 4 (dk_at dksX0_roundsOf_0 17 rfl rfl)
theorem dX0_roundsOf_19 : decode cX0_roundsOf 19 = .ok (.iload_n 3, 1) := dk_29 (dk_at dksX0_roundsOf_0 19 rfl rfl)
theorem dX0_roundsOf_20 : decode cX0_roundsOf 20 = .ok (.istore 5, 2) := dk_54 5 (dk_at dksX0_roundsOf_0 20 rfl rfl)
theorem dX0_roundsOf_22 : decode cX0_roundsOf 22 = .ok (.aload_n 0, 1) := dk_42 (dk_at dksX0_roundsOf_0 22 rfl rfl)
theorem dX0_roundsOf_23 : decode cX0_roundsOf 23 = .ok (.iload 5, 2) := dk_21 5 (dk_at dksX0_roundsOf_1 0 rfl rfl)
theorem dX0_roundsOf_25 : decode cX0_roundsOf 25 = .ok (.iload_n 2, 1) := dk_28 (dk_at dksX0_roundsOf_1 2 rfl rfl)
theorem dX0_roundsOf_26 : decode cX0_roundsOf 26 = .ok (.ior, 1) := dk_128 (dk_at dksX0_roundsOf_1 3 rfl rfl)
theorem dX0_roundsOf_27 : decode cX0_roundsOf 27 = .ok (.invokevirtual 406, 3) := dk_182 1 150 (dk_at dksX0_roundsOf_1 4 rfl rfl)
theorem dX0_roundsOf_30 : decode cX0_roundsOf 30 = .ok (.ifCond .eq 22, 3) := dk_153 0 22 (dk_at dksX0_roundsOf_1 7 rfl rfl)
theorem dX0_roundsOf_33 : decode cX0_roundsOf 33 = .ok (.iload 4, 2) := dk_21 4 (dk_at dksX0_roundsOf_1 10 rfl rfl)
theorem dX0_roundsOf_35 : decode cX0_roundsOf 35 = .ok (.iconst 1, 1) := dk_4 (dk_at dksX0_roundsOf_1 12 rfl rfl)
theorem dX0_roundsOf_36 : decode cX0_roundsOf 36 = .ok (.aload_n 0, 1) := dk_42 (dk_at dksX0_roundsOf_1 13 rfl rfl)
theorem dX0_roundsOf_37 : decode cX0_roundsOf 37 = .ok (.iload_n 3, 1) := dk_29 (dk_at dksX0_roundsOf_1 14 rfl rfl)
theorem dX0_roundsOf_38 : decode cX0_roundsOf 38 = .ok (.iload 5, 2) := dk_21 5 (dk_at dksX0_roundsOf_1 15 rfl rfl)
theorem dX0_roundsOf_40 : decode cX0_roundsOf 40 = .ok (.iconst (-1), 1) := dk_2 (dk_at dksX0_roundsOf_1 17 rfl rfl)
theorem dX0_roundsOf_41 : decode cX0_roundsOf 41 = .ok (.ixor, 1) := dk_130 (dk_at dksX0_roundsOf_1 18 rfl rfl)
theorem dX0_roundsOf_42 : decode cX0_roundsOf 42 = .ok (.iand, 1) := dk_126 (dk_at dksX0_roundsOf_1 19 rfl rfl)
theorem dX0_roundsOf_43 : decode cX0_roundsOf 43 = .ok (.invokevirtual 409, 3) := dk_182 1 153 (dk_at dksX0_roundsOf_1 20 rfl rfl)
theorem dX0_roundsOf_46 : decode cX0_roundsOf 46 = .ok (.iadd, 1) := dk_96 (dk_at dksX0_roundsOf_1 23 rfl rfl)
theorem dX0_roundsOf_47 : decode cX0_roundsOf 47 = .ok (.invokestatic 412, 3) := dk_184 1 156 (dk_at dksX0_roundsOf_2 0 rfl rfl)
theorem dX0_roundsOf_50 : decode cX0_roundsOf 50 = .ok (.istore 4, 2) := dk_54 4 (dk_at dksX0_roundsOf_2 3 rfl rfl)
theorem dX0_roundsOf_52 : decode cX0_roundsOf 52 = .ok (.iload 5, 2) := dk_21 5 (dk_at dksX0_roundsOf_2 5 rfl rfl)
theorem dX0_roundsOf_54 : decode cX0_roundsOf 54 = .ok (.ifCond .ne 6, 3) := dk_154 0 6 (dk_at dksX0_roundsOf_2 7 rfl rfl)
theorem dX0_roundsOf_57 : decode cX0_roundsOf 57 = .ok (.iload 4, 2) := dk_21 4 (dk_at dksX0_roundsOf_2 10 rfl rfl)
theorem dX0_roundsOf_59 : decode cX0_roundsOf 59 = .ok (.ireturn, 1) := dk_172 (dk_at dksX0_roundsOf_2 12 rfl rfl)
theorem dX0_roundsOf_60 : decode cX0_roundsOf 60 = .ok (.iload 5, 2) := dk_21 5 (dk_at dksX0_roundsOf_2 13 rfl rfl)
theorem dX0_roundsOf_62 : decode cX0_roundsOf 62 = .ok (.iconst 1, 1) := dk_4 (dk_at dksX0_roundsOf_2 15 rfl rfl)
theorem dX0_roundsOf_63 : decode cX0_roundsOf 63 = .ok (.isub, 1) := dk_100 (dk_at dksX0_roundsOf_2 16 rfl rfl)
theorem dX0_roundsOf_64 : decode cX0_roundsOf 64 = .ok (.iload_n 3, 1) := dk_29 (dk_at dksX0_roundsOf_2 17 rfl rfl)
theorem dX0_roundsOf_65 : decode cX0_roundsOf 65 = .ok (.iand, 1) := dk_126 (dk_at dksX0_roundsOf_2 18 rfl rfl)
theorem dX0_roundsOf_66 : decode cX0_roundsOf 66 = .ok (.istore 5, 2) := dk_54 5 (dk_at dksX0_roundsOf_2 19 rfl rfl)
theorem dX0_roundsOf_68 : decode cX0_roundsOf 68 = .ok (.goto (-46), 3) := dk_167 255 210 (dk_at dksX0_roundsOf_2 21 rfl rfl)
abbrev cX0_oneRound : ByteArray := prog_1_method_75_code
def yX0_oneRound : MethodName := ⟨RX0, "oneRound", "()I"⟩
def dkwX0_oneRound_2 : List UInt8 := [182, 0, 102, 172]
abbrev dktX0_oneRound_2 : List UInt8 := dkwX0_oneRound_2 ++ []
def dkwX0_oneRound_1 : List UInt8 := [184, 1, 70, 164, 0, 13, 42, 28, 182, 1, 150, 153, 0, 5, 28, 60, 132, 2, 1, 167, 255, 219, 42, 27]
abbrev dktX0_oneRound_1 : List UInt8 := dkwX0_oneRound_1 ++ dktX0_oneRound_2
def dkwX0_oneRound_0 : List UInt8 := [3, 60, 4, 61, 28, 4, 42, 180, 0, 38, 180, 0, 152, 120, 162, 0, 30, 28, 184, 1, 70, 27]
abbrev dktX0_oneRound_0 : List UInt8 := dkwX0_oneRound_0 ++ dktX0_oneRound_1
theorem dksX0_oneRound_0 : cX0_oneRound.data.toList.drop 0 = dktX0_oneRound_0 := by decide +kernel
theorem dksX0_oneRound_1 : cX0_oneRound.data.toList.drop 22 = dktX0_oneRound_1 := dk_seg dksX0_oneRound_0 22 rfl rfl
theorem dksX0_oneRound_2 : cX0_oneRound.data.toList.drop 46 = dktX0_oneRound_2 := dk_seg dksX0_oneRound_1 24 rfl rfl
theorem dX0_oneRound_0 : decode cX0_oneRound 0 = .ok (.iconst 0, 1) := dk_3 (dk_at dksX0_oneRound_0 0 rfl rfl)
theorem dX0_oneRound_1 : decode cX0_oneRound 1 = .ok (.istore_n 1, 1) := dk_60 (dk_at dksX0_oneRound_0 1 rfl rfl)
theorem dX0_oneRound_2 : decode cX0_oneRound 2 = .ok (.iconst 1, 1) := dk_4 (dk_at dksX0_oneRound_0 2 rfl rfl)
theorem dX0_oneRound_3 : decode cX0_oneRound 3 = .ok (.istore_n 2, 1) := dk_61 (dk_at dksX0_oneRound_0 3 rfl rfl)
theorem dX0_oneRound_4 : decode cX0_oneRound 4 = .ok (.iload_n 2, 1) := dk_28 (dk_at dksX0_oneRound_0 4 rfl rfl)
theorem dX0_oneRound_5 : decode cX0_oneRound 5 = .ok (.iconst 1, 1) := dk_4 (dk_at dksX0_oneRound_0 5 rfl rfl)
theorem dX0_oneRound_6 : decode cX0_oneRound 6 = .ok (.aload_n 0, 1) := dk_42 (dk_at dksX0_oneRound_0 6 rfl rfl)
theorem dX0_oneRound_7 : decode cX0_oneRound 7 = .ok (.getfield 38, 3) := dk_180 0 38 (dk_at dksX0_oneRound_0 7 rfl rfl)
theorem dX0_oneRound_10 : decode cX0_oneRound 10 = .ok (.getfield 152, 3) := dk_180 0 152 (dk_at dksX0_oneRound_0 10 rfl rfl)
theorem dX0_oneRound_13 : decode cX0_oneRound 13 = .ok (.ishl, 1) := dk_120 (dk_at dksX0_oneRound_0 13 rfl rfl)
theorem dX0_oneRound_14 : decode cX0_oneRound 14 = .ok (.if_icmp .ge 30, 3) := dk_162 0 30 (dk_at dksX0_oneRound_0 14 rfl rfl)
theorem dX0_oneRound_17 : decode cX0_oneRound 17 = .ok (.iload_n 2, 1) := dk_28 (dk_at dksX0_oneRound_0 17 rfl rfl)
theorem dX0_oneRound_18 : decode cX0_oneRound 18 = .ok (.invokestatic 326, 3) := dk_184 1 70 (dk_at dksX0_oneRound_0 18 rfl rfl)
theorem dX0_oneRound_21 : decode cX0_oneRound 21 = .ok (.iload_n 1, 1) := dk_27 (dk_at dksX0_oneRound_0 21 rfl rfl)
theorem dX0_oneRound_22 : decode cX0_oneRound 22 = .ok (.invokestatic 326, 3) := dk_184 1 70 (dk_at dksX0_oneRound_1 0 rfl rfl)
theorem dX0_oneRound_25 : decode cX0_oneRound 25 = .ok (.if_icmp .le 13, 3) := dk_164 0 13 (dk_at dksX0_oneRound_1 3 rfl rfl)
theorem dX0_oneRound_28 : decode cX0_oneRound 28 = .ok (.aload_n 0, 1) := dk_42 (dk_at dksX0_oneRound_1 6 rfl rfl)
theorem dX0_oneRound_29 : decode cX0_oneRound 29 = .ok (.iload_n 2, 1) := dk_28 (dk_at dksX0_oneRound_1 7 rfl rfl)
theorem dX0_oneRound_30 : decode cX0_oneRound 30 = .ok (.invokevirtual 406, 3) := dk_182 1 150 (dk_at dksX0_oneRound_1 8 rfl rfl)
theorem dX0_oneRound_33 : decode cX0_oneRound 33 = .ok (.ifCond .eq 5, 3) := dk_153 0 5 (dk_at dksX0_oneRound_1 11 rfl rfl)
theorem dX0_oneRound_36 : decode cX0_oneRound 36 = .ok (.iload_n 2, 1) := dk_28 (dk_at dksX0_oneRound_1 14 rfl rfl)
theorem dX0_oneRound_37 : decode cX0_oneRound 37 = .ok (.istore_n 1, 1) := dk_60 (dk_at dksX0_oneRound_1 15 rfl rfl)
theorem dX0_oneRound_38 : decode cX0_oneRound 38 = .ok (.iinc 2 1, 3) := dk_132 2 1 (dk_at dksX0_oneRound_1 16 rfl rfl)
theorem dX0_oneRound_41 : decode cX0_oneRound 41 = .ok (.goto (-37), 3) := dk_167 255 219 (dk_at dksX0_oneRound_1 19 rfl rfl)
theorem dX0_oneRound_44 : decode cX0_oneRound 44 = .ok (.aload_n 0, 1) := dk_42 (dk_at dksX0_oneRound_1 22 rfl rfl)
theorem dX0_oneRound_45 : decode cX0_oneRound 45 = .ok (.iload_n 1, 1) := dk_27 (dk_at dksX0_oneRound_1 23 rfl rfl)
theorem dX0_oneRound_46 : decode cX0_oneRound 46 = .ok (.invokevirtual 102, 3) := dk_182 0 102 (dk_at dksX0_oneRound_2 0 rfl rfl)
theorem dX0_oneRound_49 : decode cX0_oneRound 49 = .ok (.ireturn, 1) := dk_172 (dk_at dksX0_oneRound_2 3 rfl rfl)
abbrev cX0_plaits : ByteArray := prog_1_method_78_code
def yX0_plaits : MethodName := ⟨RX0, "plaits", "(III)I"⟩
def dkwX0_plaits_1 : List UInt8 := [29, 182, 1, 167, 42, 42, 180, 0, 60, 27, 46, 182, 0, 102, 172]
abbrev dktX0_plaits_1 : List UInt8 := dkwX0_plaits_1 ++ []
def dkwX0_plaits_0 : List UInt8 := [42, 27, 28, 29, 182, 1, 164, 54, 4, 21, 4, 158, 0, 10, 42, 21, 4, 182, 0, 98, 172, 42, 27, 28]
abbrev dktX0_plaits_0 : List UInt8 := dkwX0_plaits_0 ++ dktX0_plaits_1
theorem dksX0_plaits_0 : cX0_plaits.data.toList.drop 0 = dktX0_plaits_0 := by decide +kernel
theorem dksX0_plaits_1 : cX0_plaits.data.toList.drop 24 = dktX0_plaits_1 := dk_seg dksX0_plaits_0 24 rfl rfl
theorem dX0_plaits_0 : decode cX0_plaits 0 = .ok (.aload_n 0, 1) := dk_42 (dk_at dksX0_plaits_0 0 rfl rfl)
theorem dX0_plaits_1 : decode cX0_plaits 1 = .ok (.iload_n 1, 1) := dk_27 (dk_at dksX0_plaits_0 1 rfl rfl)
theorem dX0_plaits_2 : decode cX0_plaits 2 = .ok (.iload_n 2, 1) := dk_28 (dk_at dksX0_plaits_0 2 rfl rfl)
theorem dX0_plaits_3 : decode cX0_plaits 3 = .ok (.iload_n 3, 1) := dk_29 (dk_at dksX0_plaits_0 3 rfl rfl)
theorem dX0_plaits_4 : decode cX0_plaits 4 = .ok (.invokevirtual 420, 3) := dk_182 1 164 (dk_at dksX0_plaits_0 4 rfl rfl)
theorem dX0_plaits_7 : decode cX0_plaits 7 = .ok (.istore 4, 2) := dk_54 4 (dk_at dksX0_plaits_0 7 rfl rfl)
theorem dX0_plaits_9 : decode cX0_plaits 9 = .ok (.iload 4, 2) := dk_21 4 (dk_at dksX0_plaits_0 9 rfl rfl)
theorem dX0_plaits_11 : decode cX0_plaits 11 = .ok (.ifCond .le 10, 3) := dk_158 0 10 (dk_at dksX0_plaits_0 11 rfl rfl)
theorem dX0_plaits_14 : decode cX0_plaits 14 = .ok (.aload_n 0, 1) := dk_42 (dk_at dksX0_plaits_0 14 rfl rfl)
theorem dX0_plaits_15 : decode cX0_plaits 15 = .ok (.iload 4, 2) := dk_21 4 (dk_at dksX0_plaits_0 15 rfl rfl)
theorem dX0_plaits_17 : decode cX0_plaits 17 = .ok (.invokevirtual 98, 3) := dk_182 0 98 (dk_at dksX0_plaits_0 17 rfl rfl)
theorem dX0_plaits_20 : decode cX0_plaits 20 = .ok (.ireturn, 1) := dk_172 (dk_at dksX0_plaits_0 20 rfl rfl)
theorem dX0_plaits_21 : decode cX0_plaits 21 = .ok (.aload_n 0, 1) := dk_42 (dk_at dksX0_plaits_0 21 rfl rfl)
theorem dX0_plaits_22 : decode cX0_plaits 22 = .ok (.iload_n 1, 1) := dk_27 (dk_at dksX0_plaits_0 22 rfl rfl)
theorem dX0_plaits_23 : decode cX0_plaits 23 = .ok (.iload_n 2, 1) := dk_28 (dk_at dksX0_plaits_0 23 rfl rfl)
theorem dX0_plaits_24 : decode cX0_plaits 24 = .ok (.iload_n 3, 1) := dk_29 (dk_at dksX0_plaits_1 0 rfl rfl)
theorem dX0_plaits_25 : decode cX0_plaits 25 = .ok (.invokevirtual 423, 3) := dk_182 1 167 (dk_at dksX0_plaits_1 1 rfl rfl)
theorem dX0_plaits_28 : decode cX0_plaits 28 = .ok (.aload_n 0, 1) := dk_42 (dk_at dksX0_plaits_1 4 rfl rfl)
theorem dX0_plaits_29 : decode cX0_plaits 29 = .ok (.aload_n 0, 1) := dk_42 (dk_at dksX0_plaits_1 5 rfl rfl)
theorem dX0_plaits_30 : decode cX0_plaits 30 = .ok (.getfield 60, 3) := dk_180 0 60 (dk_at dksX0_plaits_1 6 rfl rfl)
theorem dX0_plaits_33 : decode cX0_plaits 33 = .ok (.iload_n 1, 1) := dk_27 (dk_at dksX0_plaits_1 9 rfl rfl)
theorem dX0_plaits_34 : decode cX0_plaits 34 = .ok (.iaload, 1) := dk_46 (dk_at dksX0_plaits_1 10 rfl rfl)
theorem dX0_plaits_35 : decode cX0_plaits 35 = .ok (.invokevirtual 102, 3) := dk_182 0 102 (dk_at dksX0_plaits_1 11 rfl rfl)
theorem dX0_plaits_38 : decode cX0_plaits 38 = .ok (.ireturn, 1) := dk_172 (dk_at dksX0_plaits_1 14 rfl rfl)
abbrev cX0_wrongPlait : ByteArray := prog_1_method_76_code
def yX0_wrongPlait : MethodName := ⟨RX0, "wrongPlait", "(III)I"⟩
def dkwX0_wrongPlait_2 : List UInt8 := [3, 167, 0, 4, 8, 172]
abbrev dktX0_wrongPlait_2 : List UInt8 := dkwX0_wrongPlait_2 ++ []
def dkwX0_wrongPlait_1 : List UInt8 := [182, 1, 118, 54, 4, 21, 4, 158, 0, 8, 21, 4, 167, 0, 17, 42, 27, 133, 182, 1, 138, 153, 0, 7]
abbrev dktX0_wrongPlait_1 : List UInt8 := dkwX0_wrongPlait_1 ++ dktX0_wrongPlait_2
def dkwX0_wrongPlait_0 : List UInt8 := [42, 28, 29, 42, 180, 0, 38, 180, 0, 147, 4, 100, 42, 180, 0, 38, 180, 0, 147, 4, 100, 133]
abbrev dktX0_wrongPlait_0 : List UInt8 := dkwX0_wrongPlait_0 ++ dktX0_wrongPlait_1
theorem dksX0_wrongPlait_0 : cX0_wrongPlait.data.toList.drop 0 = dktX0_wrongPlait_0 := by decide +kernel
theorem dksX0_wrongPlait_1 : cX0_wrongPlait.data.toList.drop 22 = dktX0_wrongPlait_1 := dk_seg dksX0_wrongPlait_0 22 rfl rfl
theorem dksX0_wrongPlait_2 : cX0_wrongPlait.data.toList.drop 46 = dktX0_wrongPlait_2 := dk_seg dksX0_wrongPlait_1 24 rfl rfl
theorem dX0_wrongPlait_0 : decode cX0_wrongPlait 0 = .ok (.aload_n 0, 1) := dk_42 (dk_at dksX0_wrongPlait_0 0 rfl rfl)
theorem dX0_wrongPlait_1 : decode cX0_wrongPlait 1 = .ok (.iload_n 2, 1) := dk_28 (dk_at dksX0_wrongPlait_0 1 rfl rfl)
theorem dX0_wrongPlait_2 : decode cX0_wrongPlait 2 = .ok (.iload_n 3, 1) := dk_29 (dk_at dksX0_wrongPlait_0 2 rfl rfl)
theorem dX0_wrongPlait_3 : decode cX0_wrongPlait 3 = .ok (.aload_n 0, 1) := dk_42 (dk_at dksX0_wrongPlait_0 3 rfl rfl)
theorem dX0_wrongPlait_4 : decode cX0_wrongPlait 4 = .ok (.getfield 38, 3) := dk_180 0 38 (dk_at dksX0_wrongPlait_0 4 rfl rfl)
theorem dX0_wrongPlait_7 : decode cX0_wrongPlait 7 = .ok (.getfield 147, 3) := dk_180 0 147 (dk_at dksX0_wrongPlait_0 7 rfl rfl)
theorem dX0_wrongPlait_10 : decode cX0_wrongPlait 10 = .ok (.iconst 1, 1) := dk_4 (dk_at dksX0_wrongPlait_0 10 rfl rfl)
theorem dX0_wrongPlait_11 : decode cX0_wrongPlait 11 = .ok (.isub, 1) := dk_100 (dk_at dksX0_wrongPlait_0 11 rfl rfl)
theorem dX0_wrongPlait_12 : decode cX0_wrongPlait 12 = .ok (.aload_n 0, 1) := dk_42 (dk_at dksX0_wrongPlait_0 12 rfl rfl)
theorem dX0_wrongPlait_13 : decode cX0_wrongPlait 13 = .ok (.getfield 38, 3) := dk_180 0 38 (dk_at dksX0_wrongPlait_0 13 rfl rfl)
theorem dX0_wrongPlait_16 : decode cX0_wrongPlait 16 = .ok (.getfield 147, 3) := dk_180 0 147 (dk_at dksX0_wrongPlait_0 16 rfl rfl)
theorem dX0_wrongPlait_19 : decode cX0_wrongPlait 19 = .ok (.iconst 1, 1) := dk_4 (dk_at dksX0_wrongPlait_0 19 rfl rfl)
theorem dX0_wrongPlait_20 : decode cX0_wrongPlait 20 = .ok (.isub, 1) := dk_100 (dk_at dksX0_wrongPlait_0 20 rfl rfl)
theorem dX0_wrongPlait_21 : decode cX0_wrongPlait 21 = .ok (.i2l, 1) := dk_133 (dk_at dksX0_wrongPlait_0 21 rfl rfl)
theorem dX0_wrongPlait_22 : decode cX0_wrongPlait 22 = .ok (.invokevirtual 374, 3) := dk_182 1 118 (dk_at dksX0_wrongPlait_1 0 rfl rfl)
theorem dX0_wrongPlait_25 : decode cX0_wrongPlait 25 = .ok (.istore 4, 2) := dk_54 4 (dk_at dksX0_wrongPlait_1 3 rfl rfl)
theorem dX0_wrongPlait_27 : decode cX0_wrongPlait 27 = .ok (.iload 4, 2) := dk_21 4 (dk_at dksX0_wrongPlait_1 5 rfl rfl)
theorem dX0_wrongPlait_29 : decode cX0_wrongPlait 29 = .ok (.ifCond .le 8, 3) := dk_158 0 8 (dk_at dksX0_wrongPlait_1 7 rfl rfl)
theorem dX0_wrongPlait_32 : decode cX0_wrongPlait 32 = .ok (.iload 4, 2) := dk_21 4 (dk_at dksX0_wrongPlait_1 10 rfl rfl)
theorem dX0_wrongPlait_34 : decode cX0_wrongPlait 34 = .ok (.goto 17, 3) := dk_167 0 17 (dk_at dksX0_wrongPlait_1 12 rfl rfl)
theorem dX0_wrongPlait_37 : decode cX0_wrongPlait 37 = .ok (.aload_n 0, 1) := dk_42 (dk_at dksX0_wrongPlait_1 15 rfl rfl)
theorem dX0_wrongPlait_38 : decode cX0_wrongPlait 38 = .ok (.iload_n 1, 1) := dk_27 (dk_at dksX0_wrongPlait_1 16 rfl rfl)
theorem dX0_wrongPlait_39 : decode cX0_wrongPlait 39 = .ok (.i2l, 1) := dk_133 (dk_at dksX0_wrongPlait_1 17 rfl rfl)
theorem dX0_wrongPlait_40 : decode cX0_wrongPlait 40 = .ok (.invokevirtual 394, 3) := dk_182 1 138 (dk_at dksX0_wrongPlait_1 18 rfl rfl)
theorem dX0_wrongPlait_43 : decode cX0_wrongPlait 43 = .ok (.ifCond .eq 7, 3) := dk_153 0 7 (dk_at dksX0_wrongPlait_1 21 rfl rfl)
theorem dX0_wrongPlait_46 : decode cX0_wrongPlait 46 = .ok (.iconst 0, 1) := dk_3 (dk_at dksX0_wrongPlait_2 0 rfl rfl)
theorem dX0_wrongPlait_47 : decode cX0_wrongPlait 47 = .ok (.goto 4, 3) := dk_167 0 4 (dk_at dksX0_wrongPlait_2 1 rfl rfl)
theorem dX0_wrongPlait_50 : decode cX0_wrongPlait 50 = .ok (.iconst 5, 1) := dk_8 (dk_at dksX0_wrongPlait_2 4 rfl rfl)
theorem dX0_wrongPlait_51 : decode cX0_wrongPlait 51 = .ok (.ireturn, 1) := dk_172 (dk_at dksX0_wrongPlait_2 5 rfl rfl)
abbrev cX0_laysOrders : ByteArray := prog_1_method_77_code
def yX0_laysOrders : MethodName := ⟨RX0, "laysOrders", "(III)V"⟩
def dkwX0_laysOrders_9 : List UInt8 := [177]
abbrev dktX0_laysOrders_9 : List UInt8 := dkwX0_laysOrders_9 ++ []
def dkwX0_laysOrders_8 : List UInt8 := [21, 4, 4, 21, 5, 120, 2, 130, 126, 46, 96, 79, 132, 5, 1, 167, 255, 199, 132, 4, 1, 167, 255, 155]
abbrev dktX0_laysOrders_8 : List UInt8 := dkwX0_laysOrders_8 ++ dktX0_laysOrders_9
def dkwX0_laysOrders_7 : List UInt8 := [180, 0, 64, 21, 5, 46, 21, 4, 126, 154, 0, 27, 42, 180, 0, 60, 21, 4, 92, 46, 42, 180, 0, 60]
abbrev dktX0_laysOrders_7 : List UInt8 := dkwX0_laysOrders_7 ++ dktX0_laysOrders_8
def dkwX0_laysOrders_6 : List UInt8 := [79, 3, 54, 5, 21, 5, 16, 8, 162, 0, 56, 21, 4, 21, 5, 184, 1, 23, 153, 0, 40, 42]
abbrev dktX0_laysOrders_6 : List UInt8 := dkwX0_laysOrders_6 ++ dktX0_laysOrders_7
def dkwX0_laysOrders_5 : List UInt8 := [130, 126, 153, 0, 6, 167, 0, 83, 42, 180, 0, 60, 21, 4, 21, 4, 154, 0, 7, 4, 167, 0, 4, 3]
abbrev dktX0_laysOrders_5 : List UInt8 := dkwX0_laysOrders_5 ++ dktX0_laysOrders_6
def dkwX0_laysOrders_4 : List UInt8 := [21, 5, 120, 128, 79, 132, 4, 1, 167, 255, 181, 3, 54, 4, 21, 4, 27, 163, 0, 101, 21, 4, 27, 2]
abbrev dktX0_laysOrders_4 : List UInt8 := dkwX0_laysOrders_4 ++ dktX0_laysOrders_5
def dkwX0_laysOrders_3 : List UInt8 := [184, 1, 23, 153, 0, 26, 27, 21, 6, 184, 1, 23, 153, 0, 17, 42, 180, 0, 64, 21, 6, 92, 46, 4]
abbrev dktX0_laysOrders_3 : List UInt8 := dkwX0_laysOrders_3 ++ dktX0_laysOrders_4
def dkwX0_laysOrders_2 : List UInt8 := [54, 5, 42, 180, 0, 11, 28, 50, 5, 21, 4, 104, 4, 96, 182, 0, 126, 136, 54, 6, 27, 21, 5]
abbrev dktX0_laysOrders_2 : List UInt8 := dkwX0_laysOrders_2 ++ dktX0_laysOrders_3
def dkwX0_laysOrders_1 : List UInt8 := [3, 54, 4, 21, 4, 29, 162, 0, 75, 42, 180, 0, 11, 28, 50, 5, 21, 4, 104, 182, 0, 126, 136]
abbrev dktX0_laysOrders_1 : List UInt8 := dkwX0_laysOrders_1 ++ dktX0_laysOrders_2
def dkwX0_laysOrders_0 : List UInt8 := [3, 54, 4, 21, 4, 16, 8, 162, 0, 17, 42, 180, 0, 64, 21, 4, 3, 79, 132, 4, 1, 167, 255, 238]
abbrev dktX0_laysOrders_0 : List UInt8 := dkwX0_laysOrders_0 ++ dktX0_laysOrders_1
theorem dksX0_laysOrders_0 : cX0_laysOrders.data.toList.drop 0 = dktX0_laysOrders_0 := by decide +kernel
theorem dksX0_laysOrders_1 : cX0_laysOrders.data.toList.drop 24 = dktX0_laysOrders_1 := dk_seg dksX0_laysOrders_0 24 rfl rfl
theorem dksX0_laysOrders_2 : cX0_laysOrders.data.toList.drop 47 = dktX0_laysOrders_2 := dk_seg dksX0_laysOrders_1 23 rfl rfl
theorem dksX0_laysOrders_3 : cX0_laysOrders.data.toList.drop 70 = dktX0_laysOrders_3 := dk_seg dksX0_laysOrders_2 23 rfl rfl
theorem dksX0_laysOrders_4 : cX0_laysOrders.data.toList.drop 94 = dktX0_laysOrders_4 := dk_seg dksX0_laysOrders_3 24 rfl rfl
theorem dksX0_laysOrders_5 : cX0_laysOrders.data.toList.drop 118 = dktX0_laysOrders_5 := dk_seg dksX0_laysOrders_4 24 rfl rfl
theorem dksX0_laysOrders_6 : cX0_laysOrders.data.toList.drop 142 = dktX0_laysOrders_6 := dk_seg dksX0_laysOrders_5 24 rfl rfl
theorem dksX0_laysOrders_7 : cX0_laysOrders.data.toList.drop 164 = dktX0_laysOrders_7 := dk_seg dksX0_laysOrders_6 22 rfl rfl
theorem dksX0_laysOrders_8 : cX0_laysOrders.data.toList.drop 188 = dktX0_laysOrders_8 := dk_seg dksX0_laysOrders_7 24 rfl rfl
theorem dksX0_laysOrders_9 : cX0_laysOrders.data.toList.drop 212 = dktX0_laysOrders_9 := dk_seg dksX0_laysOrders_8 24 rfl rfl
theorem dX0_laysOrders_0 : decode cX0_laysOrders 0 = .ok (.iconst 0, 1) := dk_3 (dk_at dksX0_laysOrders_0 0 rfl rfl)
theorem dX0_laysOrders_1 : decode cX0_laysOrders 1 = .ok (.istore 4, 2) := dk_54 4 (dk_at dksX0_laysOrders_0 1 rfl rfl)
theorem dX0_laysOrders_3 : decode cX0_laysOrders 3 = .ok (.iload 4, 2) := dk_21 4 (dk_at dksX0_laysOrders_0 3 rfl rfl)
theorem dX0_laysOrders_5 : decode cX0_laysOrders 5 = .ok (.bipush 8, 2) := dk_16 8 (dk_at dksX0_laysOrders_0 5 rfl rfl)
theorem dX0_laysOrders_7 : decode cX0_laysOrders 7 = .ok (.if_icmp .ge 17, 3) := dk_162 0 17 (dk_at dksX0_laysOrders_0 7 rfl rfl)
theorem dX0_laysOrders_10 : decode cX0_laysOrders 10 = .ok (.aload_n 0, 1) := dk_42 (dk_at dksX0_laysOrders_0 10 rfl rfl)
theorem dX0_laysOrders_11 : decode cX0_laysOrders 11 = .ok (.getfield 64, 3) := dk_180 0 64 (dk_at dksX0_laysOrders_0 11 rfl rfl)
theorem dX0_laysOrders_14 : decode cX0_laysOrders 14 = .ok (.iload 4, 2) := dk_21 4 (dk_at dksX0_laysOrders_0 14 rfl rfl)
theorem dX0_laysOrders_16 : decode cX0_laysOrders 16 = .ok (.iconst 0, 1) := dk_3 (dk_at dksX0_laysOrders_0 16 rfl rfl)
theorem dX0_laysOrders_17 : decode cX0_laysOrders 17 = .ok (.iastore, 1) := dk_79 (dk_at dksX0_laysOrders_0 17 rfl rfl)
theorem dX0_laysOrders_18 : decode cX0_laysOrders 18 = .ok (.iinc 4 1, 3) := dk_132 4 1 (dk_at dksX0_laysOrders_0 18 rfl rfl)
theorem dX0_laysOrders_21 : decode cX0_laysOrders 21 = .ok (.goto (-18), 3) := dk_167 255 238 (dk_at dksX0_laysOrders_0 21 rfl rfl)
theorem dX0_laysOrders_24 : decode cX0_laysOrders 24 = .ok (.iconst 0, 1) := dk_3 (dk_at dksX0_laysOrders_1 0 rfl rfl)
theorem dX0_laysOrders_25 : decode cX0_laysOrders 25 = .ok (.istore 4, 2) := dk_54 4 (dk_at dksX0_laysOrders_1 1 rfl rfl)
theorem dX0_laysOrders_27 : decode cX0_laysOrders 27 = .ok (.iload 4, 2) := dk_21 4 (dk_at dksX0_laysOrders_1 3 rfl rfl)
theorem dX0_laysOrders_29 : decode cX0_laysOrders 29 = .ok (.iload_n 3, 1) := dk_29 (dk_at dksX0_laysOrders_1 5 rfl rfl)
theorem dX0_laysOrders_30 : decode cX0_laysOrders 30 = .ok (.if_icmp .ge 75, 3) := dk_162 0 75 (dk_at dksX0_laysOrders_1 6 rfl rfl)
theorem dX0_laysOrders_33 : decode cX0_laysOrders 33 = .ok (.aload_n 0, 1) := dk_42 (dk_at dksX0_laysOrders_1 9 rfl rfl)
theorem dX0_laysOrders_34 : decode cX0_laysOrders 34 = .ok (.getfield 11, 3) := dk_180 0 11 (dk_at dksX0_laysOrders_1 10 rfl rfl)
theorem dX0_laysOrders_37 : decode cX0_laysOrders 37 = .ok (.iload_n 2, 1) := dk_28 (dk_at dksX0_laysOrders_1 13 rfl rfl)
theorem dX0_laysOrders_38 : decode cX0_laysOrders 38 = .ok (.aaload, 1) := dk_50 (dk_at dksX0_laysOrders_1 14 rfl rfl)
theorem dX0_laysOrders_39 : decode cX0_laysOrders 39 = .ok (.iconst 2, 1) := dk_5 (dk_at dksX0_laysOrders_1 15 rfl rfl)
theorem dX0_laysOrders_40 : decode cX0_laysOrders 40 = .ok (.iload 4, 2) := dk_21 4 (dk_at dksX0_laysOrders_1 16 rfl rfl)
theorem dX0_laysOrders_42 : decode cX0_laysOrders 42 = .ok (.imul, 1) := dk_104 (dk_at dksX0_laysOrders_1 18 rfl rfl)
theorem dX0_laysOrders_43 : decode cX0_laysOrders 43 = .ok (.invokevirtual 126, 3) := dk_182 0 126 (dk_at dksX0_laysOrders_1 19 rfl rfl)
theorem dX0_laysOrders_46 : decode cX0_laysOrders 46 = .ok (.l2i, 1) := dk_136 (dk_at dksX0_laysOrders_1 22 rfl rfl)
theorem dX0_laysOrders_47 : decode cX0_laysOrders 47 = .ok (.istore 5, 2) := dk_54 5 (dk_at dksX0_laysOrders_2 0 rfl rfl)
theorem dX0_laysOrders_49 : decode cX0_laysOrders 49 = .ok (.aload_n 0, 1) := dk_42 (dk_at dksX0_laysOrders_2 2 rfl rfl)
theorem dX0_laysOrders_50 : decode cX0_laysOrders 50 = .ok (.getfield 11, 3) := dk_180 0 11 (dk_at dksX0_laysOrders_2 3 rfl rfl)
theorem dX0_laysOrders_53 : decode cX0_laysOrders 53 = .ok (.iload_n 2, 1) := dk_28 (dk_at dksX0_laysOrders_2 6 rfl rfl)
theorem dX0_laysOrders_54 : decode cX0_laysOrders 54 = .ok (.aaload, 1) := dk_50 (dk_at dksX0_laysOrders_2 7 rfl rfl)
theorem dX0_laysOrders_55 : decode cX0_laysOrders 55 = .ok (.iconst 2, 1) := dk_5 (dk_at dksX0_laysOrders_2 8 rfl rfl)
theorem dX0_laysOrders_56 : decode cX0_laysOrders 56 = .ok (.iload 4, 2) := dk_21 4 (dk_at dksX0_laysOrders_2 9 rfl rfl)
theorem dX0_laysOrders_58 : decode cX0_laysOrders 58 = .ok (.imul, 1) := dk_104 (dk_at dksX0_laysOrders_2 11 rfl rfl)
theorem dX0_laysOrders_59 : decode cX0_laysOrders 59 = .ok (.iconst 1, 1) := dk_4 (dk_at dksX0_laysOrders_2 12 rfl rfl)
theorem dX0_laysOrders_60 : decode cX0_laysOrders 60 = .ok (.iadd, 1) := dk_96 (dk_at dksX0_laysOrders_2 13 rfl rfl)
theorem dX0_laysOrders_61 : decode cX0_laysOrders 61 = .ok (.invokevirtual 126, 3) := dk_182 0 126 (dk_at dksX0_laysOrders_2 14 rfl rfl)
theorem dX0_laysOrders_64 : decode cX0_laysOrders 64 = .ok (.l2i, 1) := dk_136 (dk_at dksX0_laysOrders_2 17 rfl rfl)
theorem dX0_laysOrders_65 : decode cX0_laysOrders 65 = .ok (.istore 6, 2) := dk_54 6 (dk_at dksX0_laysOrders_2 18 rfl rfl)
theorem dX0_laysOrders_67 : decode cX0_laysOrders 67 = .ok (.iload_n 1, 1) := dk_27 (dk_at dksX0_laysOrders_2 20 rfl rfl)
theorem dX0_laysOrders_68 : decode cX0_laysOrders 68 = .ok (.iload 5, 2) := dk_21 5 (dk_at dksX0_laysOrders_2 21 rfl rfl)
theorem dX0_laysOrders_70 : decode cX0_laysOrders 70 = .ok (.invokestatic 279, 3) := dk_184 1 23 (dk_at dksX0_laysOrders_3 0 rfl rfl)
theorem dX0_laysOrders_73 : decode cX0_laysOrders 73 = .ok (.ifCond .eq 26, 3) := dk_153 0 26 (dk_at dksX0_laysOrders_3 3 rfl rfl)
theorem dX0_laysOrders_76 : decode cX0_laysOrders 76 = .ok (.iload_n 1, 1) := dk_27 (dk_at dksX0_laysOrders_3 6 rfl rfl)
theorem dX0_laysOrders_77 : decode cX0_laysOrders 77 = .ok (.iload 6, 2) := dk_21 6 (dk_at dksX0_laysOrders_3 7 rfl rfl)
theorem dX0_laysOrders_79 : decode cX0_laysOrders 79 = .ok (.invokestatic 279, 3) := dk_184 1 23 (dk_at dksX0_laysOrders_3 9 rfl rfl)
theorem dX0_laysOrders_82 : decode cX0_laysOrders 82 = .ok (.ifCond .eq 17, 3) := dk_153 0 17 (dk_at dksX0_laysOrders_3 12 rfl rfl)
theorem dX0_laysOrders_85 : decode cX0_laysOrders 85 = .ok (.aload_n 0, 1) := dk_42 (dk_at dksX0_laysOrders_3 15 rfl rfl)
theorem dX0_laysOrders_86 : decode cX0_laysOrders 86 = .ok (.getfield 64, 3) := dk_180 0 64 (dk_at dksX0_laysOrders_3 16 rfl rfl)
theorem dX0_laysOrders_89 : decode cX0_laysOrders 89 = .ok (.iload 6, 2) := dk_21 6 (dk_at dksX0_laysOrders_3 19 rfl rfl)
theorem dX0_laysOrders_91 : decode cX0_laysOrders 91 = .ok (.dup2, 1) := dk_92 (dk_at dksX0_laysOrders_3 21 rfl rfl)
theorem dX0_laysOrders_92 : decode cX0_laysOrders 92 = .ok (.iaload, 1) := dk_46 (dk_at dksX0_laysOrders_3 22 rfl rfl)
theorem dX0_laysOrders_93 : decode cX0_laysOrders 93 = .ok (.iconst 1, 1) := dk_4 (dk_at dksX0_laysOrders_3 23 rfl rfl)
theorem dX0_laysOrders_94 : decode cX0_laysOrders 94 = .ok (.iload 5, 2) := dk_21 5 (dk_at dksX0_laysOrders_4 0 rfl rfl)
theorem dX0_laysOrders_96 : decode cX0_laysOrders 96 = .ok (.ishl, 1) := dk_120 (dk_at dksX0_laysOrders_4 2 rfl rfl)
theorem dX0_laysOrders_97 : decode cX0_laysOrders 97 = .ok (.ior, 1) := dk_128 (dk_at dksX0_laysOrders_4 3 rfl rfl)
theorem dX0_laysOrders_98 : decode cX0_laysOrders 98 = .ok (.iastore, 1) := dk_79 (dk_at dksX0_laysOrders_4 4 rfl rfl)
theorem dX0_laysOrders_99 : decode cX0_laysOrders 99 = .ok (.iinc 4 1, 3) := dk_132 4 1 (dk_at dksX0_laysOrders_4 5 rfl rfl)
theorem dX0_laysOrders_102 : decode cX0_laysOrders 102 = .ok (.goto (-75), 3) := dk_167 255 181 (dk_at dksX0_laysOrders_4 8 rfl rfl)
theorem dX0_laysOrders_105 : decode cX0_laysOrders 105 = .ok (.iconst 0, 1) := dk_3 (dk_at dksX0_laysOrders_4 11 rfl rfl)
theorem dX0_laysOrders_106 : decode cX0_laysOrders 106 = .ok (.istore 4, 2) := dk_54 4 (dk_at dksX0_laysOrders_4 12 rfl rfl)
theorem dX0_laysOrders_108 : decode cX0_laysOrders 108 = .ok (.iload 4, 2) := dk_21 4 (dk_at dksX0_laysOrders_4 14 rfl rfl)
theorem dX0_laysOrders_110 : decode cX0_laysOrders 110 = .ok (.iload_n 1, 1) := dk_27 (dk_at dksX0_laysOrders_4 16 rfl rfl)
theorem dX0_laysOrders_111 : decode cX0_laysOrders 111 = .ok (.if_icmp .gt 101, 3) := dk_163 0 101 (dk_at dksX0_laysOrders_4 17 rfl rfl)
theorem dX0_laysOrders_114 : decode cX0_laysOrders 114 = .ok (.iload 4, 2) := dk_21 4 (dk_at dksX0_laysOrders_4 20 rfl rfl)
theorem dX0_laysOrders_116 : decode cX0_laysOrders 116 = .ok (.iload_n 1, 1) := dk_27 (dk_at dksX0_laysOrders_4 22 rfl rfl)
theorem dX0_laysOrders_117 : decode cX0_laysOrders 117 = .ok (.iconst (-1), 1) := dk_2 (dk_at dksX0_laysOrders_4 23 rfl rfl)
theorem dX0_laysOrders_118 : decode cX0_laysOrders 118 = .ok (.ixor, 1) := dk_130 (dk_at dksX0_laysOrders_5 0 rfl rfl)
theorem dX0_laysOrders_119 : decode cX0_laysOrders 119 = .ok (.iand, 1) := dk_126 (dk_at dksX0_laysOrders_5 1 rfl rfl)
theorem dX0_laysOrders_120 : decode cX0_laysOrders 120 = .ok (.ifCond .eq 6, 3) := dk_153 0 6 (dk_at dksX0_laysOrders_5 2 rfl rfl)
theorem dX0_laysOrders_123 : decode cX0_laysOrders 123 = .ok (.goto 83, 3) := dk_167 0 83 (dk_at dksX0_laysOrders_5 5 rfl rfl)
theorem dX0_laysOrders_126 : decode cX0_laysOrders 126 = .ok (.aload_n 0, 1) := dk_42 (dk_at dksX0_laysOrders_5 8 rfl rfl)
theorem dX0_laysOrders_127 : decode cX0_laysOrders 127 = .ok (.getfield 60, 3) := dk_180 0 60 (dk_at dksX0_laysOrders_5 9 rfl rfl)
theorem dX0_laysOrders_130 : decode cX0_laysOrders 130 = .ok (.iload 4, 2) := dk_21 4 (dk_at dksX0_laysOrders_5 12 rfl rfl)
theorem dX0_laysOrders_132 : decode cX0_laysOrders 132 = .ok (.iload 4, 2) := dk_21 4 (dk_at dksX0_laysOrders_5 14 rfl rfl)
theorem dX0_laysOrders_134 : decode cX0_laysOrders 134 = .ok (.ifCond .ne 7, 3) := dk_154 0 7 (dk_at dksX0_laysOrders_5 16 rfl rfl)
theorem dX0_laysOrders_137 : decode cX0_laysOrders 137 = .ok (.iconst 1, 1) := dk_4 (dk_at dksX0_laysOrders_5 19 rfl rfl)
theorem dX0_laysOrders_138 : decode cX0_laysOrders 138 = .ok (.goto 4, 3) := dk_167 0 4 (dk_at dksX0_laysOrders_5 20 rfl rfl)
theorem dX0_laysOrders_141 : decode cX0_laysOrders 141 = .ok (.iconst 0, 1) := dk_3 (dk_at dksX0_laysOrders_5 23 rfl rfl)
theorem dX0_laysOrders_142 : decode cX0_laysOrders 142 = .ok (.iastore, 1) := dk_79 (dk_at dksX0_laysOrders_6 0 rfl rfl)
theorem dX0_laysOrders_143 : decode cX0_laysOrders 143 = .ok (.iconst 0, 1) := dk_3 (dk_at dksX0_laysOrders_6 1 rfl rfl)
theorem dX0_laysOrders_144 : decode cX0_laysOrders 144 = .ok (.istore 5, 2) := dk_54 5 (dk_at dksX0_laysOrders_6 2 rfl rfl)
theorem dX0_laysOrders_146 : decode cX0_laysOrders 146 = .ok (.iload 5, 2) := dk_21 5 (dk_at dksX0_laysOrders_6 4 rfl rfl)
theorem dX0_laysOrders_148 : decode cX0_laysOrders 148 = .ok (.bipush 8, 2) := dk_16 8 (dk_at dksX0_laysOrders_6 6 rfl rfl)
theorem dX0_laysOrders_150 : decode cX0_laysOrders 150 = .ok (.if_icmp .ge 56, 3) := dk_162 0 56 (dk_at dksX0_laysOrders_6 8 rfl rfl)
theorem dX0_laysOrders_153 : decode cX0_laysOrders 153 = .ok (.iload 4, 2) := dk_21 4 (dk_at dksX0_laysOrders_6 11 rfl rfl)
theorem dX0_laysOrders_155 : decode cX0_laysOrders 155 = .ok (.iload 5, 2) := dk_21 5 (dk_at dksX0_laysOrders_6 13 rfl rfl)
theorem dX0_laysOrders_157 : decode cX0_laysOrders 157 = .ok (.invokestatic 279, 3) := dk_184 1 23 (dk_at dksX0_laysOrders_6 15 rfl rfl)
theorem dX0_laysOrders_160 : decode cX0_laysOrders 160 = .ok (.ifCond .eq 40, 3) := dk_153 0 40 (dk_at dksX0_laysOrders_6 18 rfl rfl)
theorem dX0_laysOrders_163 : decode cX0_laysOrders 163 = .ok (.aload_n 0, 1) := dk_42 (dk_at dksX0_laysOrders_6 21 rfl rfl)
theorem dX0_laysOrders_164 : decode cX0_laysOrders 164 = .ok (.getfield 64, 3) := dk_180 0 64 (dk_at dksX0_laysOrders_7 0 rfl rfl)
theorem dX0_laysOrders_167 : decode cX0_laysOrders 167 = .ok (.iload 5, 2) := dk_21 5 (dk_at dksX0_laysOrders_7 3 rfl rfl)
theorem dX0_laysOrders_169 : decode cX0_laysOrders 169 = .ok (.iaload, 1) := dk_46 (dk_at dksX0_laysOrders_7 5 rfl rfl)
theorem dX0_laysOrders_170 : decode cX0_laysOrders 170 = .ok (.iload 4, 2) := dk_21 4 (dk_at dksX0_laysOrders_7 6 rfl rfl)
theorem dX0_laysOrders_172 : decode cX0_laysOrders 172 = .ok (.iand, 1) := dk_126 (dk_at dksX0_laysOrders_7 8 rfl rfl)
theorem dX0_laysOrders_173 : decode cX0_laysOrders 173 = .ok (.ifCond .ne 27, 3) := dk_154 0 27 (dk_at dksX0_laysOrders_7 9 rfl rfl)
theorem dX0_laysOrders_176 : decode cX0_laysOrders 176 = .ok (.aload_n 0, 1) := dk_42 (dk_at dksX0_laysOrders_7 12 rfl rfl)
theorem dX0_laysOrders_177 : decode cX0_laysOrders 177 = .ok (.getfield 60, 3) := dk_180 0 60 (dk_at dksX0_laysOrders_7 13 rfl rfl)
theorem dX0_laysOrders_180 : decode cX0_laysOrders 180 = .ok (.iload 4, 2) := dk_21 4 (dk_at dksX0_laysOrders_7 16 rfl rfl)
theorem dX0_laysOrders_182 : decode cX0_laysOrders 182 = .ok (.dup2, 1) := dk_92 (dk_at dksX0_laysOrders_7 18 rfl rfl)
theorem dX0_laysOrders_183 : decode cX0_laysOrders 183 = .ok (.iaload, 1) := dk_46 (dk_at dksX0_laysOrders_7 19 rfl rfl)
theorem dX0_laysOrders_184 : decode cX0_laysOrders 184 = .ok (.aload_n 0, 1) := dk_42 (dk_at dksX0_laysOrders_7 20 rfl rfl)
theorem dX0_laysOrders_185 : decode cX0_laysOrders 185 = .ok (.getfield 60, 3) := dk_180 0 60 (dk_at dksX0_laysOrders_7 21 rfl rfl)
theorem dX0_laysOrders_188 : decode cX0_laysOrders 188 = .ok (.iload 4, 2) := dk_21 4 (dk_at dksX0_laysOrders_8 0 rfl rfl)
theorem dX0_laysOrders_190 : decode cX0_laysOrders 190 = .ok (.iconst 1, 1) := dk_4 (dk_at dksX0_laysOrders_8 2 rfl rfl)
theorem dX0_laysOrders_191 : decode cX0_laysOrders 191 = .ok (.iload 5, 2) := dk_21 5 (dk_at dksX0_laysOrders_8 3 rfl rfl)
theorem dX0_laysOrders_193 : decode cX0_laysOrders 193 = .ok (.ishl, 1) := dk_120 (dk_at dksX0_laysOrders_8 5 rfl rfl)
theorem dX0_laysOrders_194 : decode cX0_laysOrders 194 = .ok (.iconst (-1), 1) := dk_2 (dk_at dksX0_laysOrders_8 6 rfl rfl)
theorem dX0_laysOrders_195 : decode cX0_laysOrders 195 = .ok (.ixor, 1) := dk_130 (dk_at dksX0_laysOrders_8 7 rfl rfl)
theorem dX0_laysOrders_196 : decode cX0_laysOrders 196 = .ok (.iand, 1) := dk_126 (dk_at dksX0_laysOrders_8 8 rfl rfl)
theorem dX0_laysOrders_197 : decode cX0_laysOrders 197 = .ok (.iaload, 1) := dk_46 (dk_at dksX0_laysOrders_8 9 rfl rfl)
theorem dX0_laysOrders_198 : decode cX0_laysOrders 198 = .ok (.iadd, 1) := dk_96 (dk_at dksX0_laysOrders_8 10 rfl rfl)
theorem dX0_laysOrders_199 : decode cX0_laysOrders 199 = .ok (.iastore, 1) := dk_79 (dk_at dksX0_laysOrders_8 11 rfl rfl)
theorem dX0_laysOrders_200 : decode cX0_laysOrders 200 = .ok (.iinc 5 1, 3) := dk_132 5 1 (dk_at dksX0_laysOrders_8 12 rfl rfl)
theorem dX0_laysOrders_203 : decode cX0_laysOrders 203 = .ok (.goto (-57), 3) := dk_167 255 199 (dk_at dksX0_laysOrders_8 15 rfl rfl)
theorem dX0_laysOrders_206 : decode cX0_laysOrders 206 = .ok (.iinc 4 1, 3) := dk_132 4 1 (dk_at dksX0_laysOrders_8 18 rfl rfl)
theorem dX0_laysOrders_209 : decode cX0_laysOrders 209 = .ok (.goto (-101), 3) := dk_167 255 155 (dk_at dksX0_laysOrders_8 21 rfl rfl)
theorem dX0_laysOrders_212 : decode cX0_laysOrders 212 = .ok (.return_, 1) := dk_177 (dk_at dksX0_laysOrders_9 0 rfl rfl)
abbrev cX0_plaitAt : ByteArray := prog_1_method_79_code
def yX0_plaitAt : MethodName := ⟨RX0, "plaitAt", "(IIII)I"⟩
def dkwX0_plaitAt_6 : List UInt8 := [21, 7, 182, 0, 102, 172]
abbrev dktX0_plaitAt_6 : List UInt8 := dkwX0_plaitAt_6 ++ []
def dkwX0_plaitAt_5 : List UInt8 := [132, 7, 1, 167, 255, 213, 21, 6, 4, 21, 7, 120, 2, 130, 126, 54, 6, 132, 8, 1, 167, 255, 186, 42]
abbrev dktX0_plaitAt_5 : List UInt8 := dkwX0_plaitAt_5 ++ dktX0_plaitAt_6
def dkwX0_plaitAt_4 : List UInt8 := [21, 6, 126, 154, 0, 20, 42, 180, 0, 60, 21, 6, 4, 21, 7, 120, 2, 130, 126, 46, 154, 0, 9]
abbrev dktX0_plaitAt_4 : List UInt8 := dkwX0_plaitAt_4 ++ dktX0_plaitAt_5
def dkwX0_plaitAt_3 : List UInt8 := [163, 0, 69, 3, 54, 7, 21, 6, 21, 7, 184, 1, 23, 153, 0, 33, 42, 180, 0, 64, 21, 7, 46]
abbrev dktX0_plaitAt_3 : List UInt8 := dkwX0_plaitAt_3 ++ dktX0_plaitAt_4
def dkwX0_plaitAt_2 : List UInt8 := [161, 0, 10, 42, 16, 8, 182, 0, 98, 172, 27, 54, 6, 2, 54, 7, 3, 54, 8, 21, 8, 21, 4]
abbrev dktX0_plaitAt_2 : List UInt8 := dkwX0_plaitAt_2 ++ dktX0_plaitAt_3
def dkwX0_plaitAt_1 : List UInt8 := [29, 182, 1, 167, 42, 180, 0, 60, 27, 46, 153, 0, 17, 21, 4, 155, 0, 12, 21, 4, 27, 184, 1, 70]
abbrev dktX0_plaitAt_1 : List UInt8 := dkwX0_plaitAt_1 ++ dktX0_plaitAt_2
def dkwX0_plaitAt_0 : List UInt8 := [42, 27, 28, 29, 182, 1, 164, 54, 5, 21, 5, 158, 0, 10, 42, 21, 5, 182, 0, 98, 172, 42, 27, 28]
abbrev dktX0_plaitAt_0 : List UInt8 := dkwX0_plaitAt_0 ++ dktX0_plaitAt_1
theorem dksX0_plaitAt_0 : cX0_plaitAt.data.toList.drop 0 = dktX0_plaitAt_0 := by decide +kernel
theorem dksX0_plaitAt_1 : cX0_plaitAt.data.toList.drop 24 = dktX0_plaitAt_1 := dk_seg dksX0_plaitAt_0 24 rfl rfl
theorem dksX0_plaitAt_2 : cX0_plaitAt.data.toList.drop 48 = dktX0_plaitAt_2 := dk_seg dksX0_plaitAt_1 24 rfl rfl
theorem dksX0_plaitAt_3 : cX0_plaitAt.data.toList.drop 71 = dktX0_plaitAt_3 := dk_seg dksX0_plaitAt_2 23 rfl rfl
theorem dksX0_plaitAt_4 : cX0_plaitAt.data.toList.drop 94 = dktX0_plaitAt_4 := dk_seg dksX0_plaitAt_3 23 rfl rfl
theorem dksX0_plaitAt_5 : cX0_plaitAt.data.toList.drop 117 = dktX0_plaitAt_5 := dk_seg dksX0_plaitAt_4 23 rfl rfl
theorem dksX0_plaitAt_6 : cX0_plaitAt.data.toList.drop 141 = dktX0_plaitAt_6 := dk_seg dksX0_plaitAt_5 24 rfl rfl
theorem dX0_plaitAt_0 : decode cX0_plaitAt 0 = .ok (.aload_n 0, 1) := dk_42 (dk_at dksX0_plaitAt_0 0 rfl rfl)
theorem dX0_plaitAt_1 : decode cX0_plaitAt 1 = .ok (.iload_n 1, 1) := dk_27 (dk_at dksX0_plaitAt_0 1 rfl rfl)
theorem dX0_plaitAt_2 : decode cX0_plaitAt 2 = .ok (.iload_n 2, 1) := dk_28 (dk_at dksX0_plaitAt_0 2 rfl rfl)
theorem dX0_plaitAt_3 : decode cX0_plaitAt 3 = .ok (.iload_n 3, 1) := dk_29 (dk_at dksX0_plaitAt_0 3 rfl rfl)
theorem dX0_plaitAt_4 : decode cX0_plaitAt 4 = .ok (.invokevirtual 420, 3) := dk_182 1 164 (dk_at dksX0_plaitAt_0 4 rfl rfl)
theorem dX0_plaitAt_7 : decode cX0_plaitAt 7 = .ok (.istore 5, 2) := dk_54 5 (dk_at dksX0_plaitAt_0 7 rfl rfl)
theorem dX0_plaitAt_9 : decode cX0_plaitAt 9 = .ok (.iload 5, 2) := dk_21 5 (dk_at dksX0_plaitAt_0 9 rfl rfl)
theorem dX0_plaitAt_11 : decode cX0_plaitAt 11 = .ok (.ifCond .le 10, 3) := dk_158 0 10 (dk_at dksX0_plaitAt_0 11 rfl rfl)
theorem dX0_plaitAt_14 : decode cX0_plaitAt 14 = .ok (.aload_n 0, 1) := dk_42 (dk_at dksX0_plaitAt_0 14 rfl rfl)
theorem dX0_plaitAt_15 : decode cX0_plaitAt 15 = .ok (.iload 5, 2) := dk_21 5 (dk_at dksX0_plaitAt_0 15 rfl rfl)
theorem dX0_plaitAt_17 : decode cX0_plaitAt 17 = .ok (.invokevirtual 98, 3) := dk_182 0 98 (dk_at dksX0_plaitAt_0 17 rfl rfl)
theorem dX0_plaitAt_20 : decode cX0_plaitAt 20 = .ok (.ireturn, 1) := dk_172 (dk_at dksX0_plaitAt_0 20 rfl rfl)
theorem dX0_plaitAt_21 : decode cX0_plaitAt 21 = .ok (.aload_n 0, 1) := dk_42 (dk_at dksX0_plaitAt_0 21 rfl rfl)
theorem dX0_plaitAt_22 : decode cX0_plaitAt 22 = .ok (.iload_n 1, 1) := dk_27 (dk_at dksX0_plaitAt_0 22 rfl rfl)
theorem dX0_plaitAt_23 : decode cX0_plaitAt 23 = .ok (.iload_n 2, 1) := dk_28 (dk_at dksX0_plaitAt_0 23 rfl rfl)
theorem dX0_plaitAt_24 : decode cX0_plaitAt 24 = .ok (.iload_n 3, 1) := dk_29 (dk_at dksX0_plaitAt_1 0 rfl rfl)
theorem dX0_plaitAt_25 : decode cX0_plaitAt 25 = .ok (.invokevirtual 423, 3) := dk_182 1 167 (dk_at dksX0_plaitAt_1 1 rfl rfl)
theorem dX0_plaitAt_28 : decode cX0_plaitAt 28 = .ok (.aload_n 0, 1) := dk_42 (dk_at dksX0_plaitAt_1 4 rfl rfl)
theorem dX0_plaitAt_29 : decode cX0_plaitAt 29 = .ok (.getfield 60, 3) := dk_180 0 60 (dk_at dksX0_plaitAt_1 5 rfl rfl)
theorem dX0_plaitAt_32 : decode cX0_plaitAt 32 = .ok (.iload_n 1, 1) := dk_27 (dk_at dksX0_plaitAt_1 8 rfl rfl)
theorem dX0_plaitAt_33 : decode cX0_plaitAt 33 = .ok (.iaload, 1) := dk_46 (dk_at dksX0_plaitAt_1 9 rfl rfl)
theorem dX0_plaitAt_34 : decode cX0_plaitAt 34 = .ok (.ifCond .eq 17, 3) := dk_153 0 17 (dk_at dksX0_plaitAt_1 10 rfl rfl)
theorem dX0_plaitAt_37 : decode cX0_plaitAt 37 = .ok (.iload 4, 2) := dk_21 4 (dk_at dksX0_plaitAt_1 13 rfl rfl)
theorem dX0_plaitAt_39 : decode cX0_plaitAt 39 = .ok (.ifCond .lt 12, 3) := dk_155 0 12 (dk_at dksX0_plaitAt_1 15 rfl rfl)
theorem dX0_plaitAt_42 : decode cX0_plaitAt 42 = .ok (.iload 4, 2) := dk_21 4 (dk_at dksX0_plaitAt_1 18 rfl rfl)
theorem dX0_plaitAt_44 : decode cX0_plaitAt 44 = .ok (.iload_n 1, 1) := dk_27 (dk_at dksX0_plaitAt_1 20 rfl rfl)
theorem dX0_plaitAt_45 : decode cX0_plaitAt 45 = .ok (.invokestatic 326, 3) := dk_184 1 70 (dk_at dksX0_plaitAt_1 21 rfl rfl)
theorem dX0_plaitAt_48 : decode cX0_plaitAt 48 = .ok (.if_icmp .lt 10, 3) := dk_161 0 10 (dk_at dksX0_plaitAt_2 0 rfl rfl)
theorem dX0_plaitAt_51 : decode cX0_plaitAt 51 = .ok (.aload_n 0, 1) := dk_42 (dk_at dksX0_plaitAt_2 3 rfl rfl)
theorem dX0_plaitAt_52 : decode cX0_plaitAt 52 = .ok (.bipush 8, 2) := dk_16 8 (dk_at dksX0_plaitAt_2 4 rfl rfl)
theorem dX0_plaitAt_54 : decode cX0_plaitAt 54 = .ok (.invokevirtual 98, 3) := dk_182 0 98 (dk_at dksX0_plaitAt_2 6 rfl rfl)
theorem dX0_plaitAt_57 : decode cX0_plaitAt 57 = .ok (.ireturn, 1) := dk_172 (dk_at dksX0_plaitAt_2 9 rfl rfl)
theorem dX0_plaitAt_58 : decode cX0_plaitAt 58 = .ok (.iload_n 1, 1) := dk_27 (dk_at dksX0_plaitAt_2 10 rfl rfl)
theorem dX0_plaitAt_59 : decode cX0_plaitAt 59 = .ok (.istore 6, 2) := dk_54 6 (dk_at dksX0_plaitAt_2 11 rfl rfl)
theorem dX0_plaitAt_61 : decode cX0_plaitAt 61 = .ok (.iconst (-1), 1) := dk_2 (dk_at dksX0_plaitAt_2 13 rfl rfl)
theorem dX0_plaitAt_62 : decode cX0_plaitAt 62 = .ok (.istore 7, 2) := dk_54 7 (dk_at dksX0_plaitAt_2 14 rfl rfl)
theorem dX0_plaitAt_64 : decode cX0_plaitAt 64 = .ok (.iconst 0, 1) := dk_3 (dk_at dksX0_plaitAt_2 16 rfl rfl)
theorem dX0_plaitAt_65 : decode cX0_plaitAt 65 = .ok (.istore 8, 2) := dk_54 8 (dk_at dksX0_plaitAt_2 17 rfl rfl)
theorem dX0_plaitAt_67 : decode cX0_plaitAt 67 = .ok (.iload 8, 2) := dk_21 8 (dk_at dksX0_plaitAt_2 19 rfl rfl)
theorem dX0_plaitAt_69 : decode cX0_plaitAt 69 = .ok (.iload 4, 2) := dk_21 4 (dk_at dksX0_plaitAt_2 21 rfl rfl)
theorem dX0_plaitAt_71 : decode cX0_plaitAt 71 = .ok (.if_icmp .gt 69, 3) := dk_163 0 69 (dk_at dksX0_plaitAt_3 0 rfl rfl)
theorem dX0_plaitAt_74 : decode cX0_plaitAt 74 = .ok (.iconst 0, 1) := dk_3 (dk_at dksX0_plaitAt_3 3 rfl rfl)
theorem dX0_plaitAt_75 : decode cX0_plaitAt 75 = .ok (.istore 7, 2) := dk_54 7 (dk_at dksX0_plaitAt_3 4 rfl rfl)
theorem dX0_plaitAt_77 : decode cX0_plaitAt 77 = .ok (.iload 6, 2) := dk_21 6 (dk_at dksX0_plaitAt_3 6 rfl rfl)
theorem dX0_plaitAt_79 : decode cX0_plaitAt 79 = .ok (.iload 7, 2) := dk_21 7 (dk_at dksX0_plaitAt_3 8 rfl rfl)
theorem dX0_plaitAt_81 : decode cX0_plaitAt 81 = .ok (.invokestatic 279, 3) := dk_184 1 23 (dk_at dksX0_plaitAt_3 10 rfl rfl)
theorem dX0_plaitAt_84 : decode cX0_plaitAt 84 = .ok (.ifCond .eq 33, 3) := dk_153 0 33 (dk_at dksX0_plaitAt_3 13 rfl rfl)
theorem dX0_plaitAt_87 : decode cX0_plaitAt 87 = .ok (.aload_n 0, 1) := dk_42 (dk_at dksX0_plaitAt_3 16 rfl rfl)
theorem dX0_plaitAt_88 : decode cX0_plaitAt 88 = .ok (.getfield 64, 3) := dk_180 0 64 (dk_at dksX0_plaitAt_3 17 rfl rfl)
theorem dX0_plaitAt_91 : decode cX0_plaitAt 91 = .ok (.iload 7, 2) := dk_21 7 (dk_at dksX0_plaitAt_3 20 rfl rfl)
theorem dX0_plaitAt_93 : decode cX0_plaitAt 93 = .ok (.iaload, 1) := dk_46 (dk_at dksX0_plaitAt_3 22 rfl rfl)
theorem dX0_plaitAt_94 : decode cX0_plaitAt 94 = .ok (.iload 6, 2) := dk_21 6 (dk_at dksX0_plaitAt_4 0 rfl rfl)
theorem dX0_plaitAt_96 : decode cX0_plaitAt 96 = .ok (.iand, 1) := dk_126 (dk_at dksX0_plaitAt_4 2 rfl rfl)
theorem dX0_plaitAt_97 : decode cX0_plaitAt 97 = .ok (.ifCond .ne 20, 3) := dk_154 0 20 (dk_at dksX0_plaitAt_4 3 rfl rfl)
theorem dX0_plaitAt_100 : decode cX0_plaitAt 100 = .ok (.aload_n 0, 1) := dk_42 (dk_at dksX0_plaitAt_4 6 rfl rfl)
theorem dX0_plaitAt_101 : decode cX0_plaitAt 101 = .ok (.getfield 60, 3) := dk_180 0 60 (dk_at dksX0_plaitAt_4 7 rfl rfl)
theorem dX0_plaitAt_104 : decode cX0_plaitAt 104 = .ok (.iload 6, 2) := dk_21 6 (dk_at dksX0_plaitAt_4 10 rfl rfl)
theorem dX0_plaitAt_106 : decode cX0_plaitAt 106 = .ok (.iconst 1, 1) := dk_4 (dk_at dksX0_plaitAt_4 12 rfl rfl)
theorem dX0_plaitAt_107 : decode cX0_plaitAt 107 = .ok (.iload 7, 2) := dk_21 7 (dk_at dksX0_plaitAt_4 13 rfl rfl)
theorem dX0_plaitAt_109 : decode cX0_plaitAt 109 = .ok (.ishl, 1) := dk_120 (dk_at dksX0_plaitAt_4 15 rfl rfl)
theorem dX0_plaitAt_110 : decode cX0_plaitAt 110 = .ok (.iconst (-1), 1) := dk_2 (dk_at dksX0_plaitAt_4 16 rfl rfl)
theorem dX0_plaitAt_111 : decode cX0_plaitAt 111 = .ok (.ixor, 1) := dk_130 (dk_at dksX0_plaitAt_4 17 rfl rfl)
theorem dX0_plaitAt_112 : decode cX0_plaitAt 112 = .ok (.iand, 1) := dk_126 (dk_at dksX0_plaitAt_4 18 rfl rfl)
theorem dX0_plaitAt_113 : decode cX0_plaitAt 113 = .ok (.iaload, 1) := dk_46 (dk_at dksX0_plaitAt_4 19 rfl rfl)
theorem dX0_plaitAt_114 : decode cX0_plaitAt 114 = .ok (.ifCond .ne 9, 3) := dk_154 0 9 (dk_at dksX0_plaitAt_4 20 rfl rfl)
theorem dX0_plaitAt_117 : decode cX0_plaitAt 117 = .ok (.iinc 7 1, 3) := dk_132 7 1 (dk_at dksX0_plaitAt_5 0 rfl rfl)
theorem dX0_plaitAt_120 : decode cX0_plaitAt 120 = .ok (.goto (-43), 3) := dk_167 255 213 (dk_at dksX0_plaitAt_5 3 rfl rfl)
theorem dX0_plaitAt_123 : decode cX0_plaitAt 123 = .ok (.iload 6, 2) := dk_21 6 (dk_at dksX0_plaitAt_5 6 rfl rfl)
theorem dX0_plaitAt_125 : decode cX0_plaitAt 125 = .ok (.iconst 1, 1) := dk_4 (dk_at dksX0_plaitAt_5 8 rfl rfl)
theorem dX0_plaitAt_126 : decode cX0_plaitAt 126 = .ok (.iload 7, 2) := dk_21 7 (dk_at dksX0_plaitAt_5 9 rfl rfl)
theorem dX0_plaitAt_128 : decode cX0_plaitAt 128 = .ok (.ishl, 1) := dk_120 (dk_at dksX0_plaitAt_5 11 rfl rfl)
theorem dX0_plaitAt_129 : decode cX0_plaitAt 129 = .ok (.iconst (-1), 1) := dk_2 (dk_at dksX0_plaitAt_5 12 rfl rfl)
theorem dX0_plaitAt_130 : decode cX0_plaitAt 130 = .ok (.ixor, 1) := dk_130 (dk_at dksX0_plaitAt_5 13 rfl rfl)
theorem dX0_plaitAt_131 : decode cX0_plaitAt 131 = .ok (.iand, 1) := dk_126 (dk_at dksX0_plaitAt_5 14 rfl rfl)
theorem dX0_plaitAt_132 : decode cX0_plaitAt 132 = .ok (.istore 6, 2) := dk_54 6 (dk_at dksX0_plaitAt_5 15 rfl rfl)
theorem dX0_plaitAt_134 : decode cX0_plaitAt 134 = .ok (.iinc 8 1, 3) := dk_132 8 1 (dk_at dksX0_plaitAt_5 17 rfl rfl)
theorem dX0_plaitAt_137 : decode cX0_plaitAt 137 = .ok (.goto (-70), 3) := dk_167 255 186 (dk_at dksX0_plaitAt_5 20 rfl rfl)
theorem dX0_plaitAt_140 : decode cX0_plaitAt 140 = .ok (.aload_n 0, 1) := dk_42 (dk_at dksX0_plaitAt_5 23 rfl rfl)
theorem dX0_plaitAt_141 : decode cX0_plaitAt 141 = .ok (.iload 7, 2) := dk_21 7 (dk_at dksX0_plaitAt_6 0 rfl rfl)
theorem dX0_plaitAt_143 : decode cX0_plaitAt 143 = .ok (.invokevirtual 102, 3) := dk_182 0 102 (dk_at dksX0_plaitAt_6 2 rfl rfl)
theorem dX0_plaitAt_146 : decode cX0_plaitAt 146 = .ok (.ireturn, 1) := dk_172 (dk_at dksX0_plaitAt_6 5 rfl rfl)
abbrev cX0_tellers : ByteArray := prog_1_method_82_code
def yX0_tellers : MethodName := ⟨RX0, "tellers", "(II)I"⟩
def dkwX0_tellers_1 : List UInt8 := [182, 1, 1, 42, 4, 28, 120, 182, 1, 176, 126, 182, 0, 102, 167, 0, 8, 42, 5, 182, 0, 98, 172]
abbrev dktX0_tellers_1 : List UInt8 := dkwX0_tellers_1 ++ []
def dkwX0_tellers_0 : List UInt8 := [42, 27, 182, 0, 242, 153, 0, 35, 42, 28, 182, 1, 8, 153, 0, 27, 42, 42, 180, 0, 38, 27, 3]
abbrev dktX0_tellers_0 : List UInt8 := dkwX0_tellers_0 ++ dktX0_tellers_1
theorem dksX0_tellers_0 : cX0_tellers.data.toList.drop 0 = dktX0_tellers_0 := by decide +kernel
theorem dksX0_tellers_1 : cX0_tellers.data.toList.drop 23 = dktX0_tellers_1 := dk_seg dksX0_tellers_0 23 rfl rfl
theorem dX0_tellers_0 : decode cX0_tellers 0 = .ok (.aload_n 0, 1) := dk_42 (dk_at dksX0_tellers_0 0 rfl rfl)
theorem dX0_tellers_1 : decode cX0_tellers 1 = .ok (.iload_n 1, 1) := dk_27 (dk_at dksX0_tellers_0 1 rfl rfl)
theorem dX0_tellers_2 : decode cX0_tellers 2 = .ok (.invokevirtual 242, 3) := dk_182 0 242 (dk_at dksX0_tellers_0 2 rfl rfl)
theorem dX0_tellers_5 : decode cX0_tellers 5 = .ok (.ifCond .eq 35, 3) := dk_153 0 35 (dk_at dksX0_tellers_0 5 rfl rfl)
theorem dX0_tellers_8 : decode cX0_tellers 8 = .ok (.aload_n 0, 1) := dk_42 (dk_at dksX0_tellers_0 8 rfl rfl)
theorem dX0_tellers_9 : decode cX0_tellers 9 = .ok (.iload_n 2, 1) := dk_28 (dk_at dksX0_tellers_0 9 rfl rfl)
theorem dX0_tellers_10 : decode cX0_tellers 10 = .ok (.invokevirtual 264, 3) := dk_182 1 8 (dk_at dksX0_tellers_0 10 rfl rfl)
theorem dX0_tellers_13 : decode cX0_tellers 13 = .ok (.ifCond .eq 27, 3) := dk_153 0 27 (dk_at dksX0_tellers_0 13 rfl rfl)
theorem dX0_tellers_16 : decode cX0_tellers 16 = .ok (.aload_n 0, 1) := dk_42 (dk_at dksX0_tellers_0 16 rfl rfl)
theorem dX0_tellers_17 : decode cX0_tellers 17 = .ok (.aload_n 0, 1) := dk_42 (dk_at dksX0_tellers_0 17 rfl rfl)
theorem dX0_tellers_18 : decode cX0_tellers 18 = .ok (.getfield 38, 3) := dk_180 0 38 (dk_at dksX0_tellers_0 18 rfl rfl)
theorem dX0_tellers_21 : decode cX0_tellers 21 = .ok (.iload_n 1, 1) := dk_27 (dk_at dksX0_tellers_0 21 rfl rfl)
theorem dX0_tellers_22 : decode cX0_tellers 22 = .ok (.iconst 0, 1) := dk_3 (dk_at dksX0_tellers_0 22 rfl rfl)
theorem dX0_tellers_23 : decode cX0_tellers 23 = .ok (.invokevirtual 257, 3) := dk_182 1 1 (dk_at dksX0_tellers_1 0 rfl rfl)
theorem dX0_tellers_26 : decode cX0_tellers 26 = .ok (.aload_n 0, 1) := dk_42 (dk_at dksX0_tellers_1 3 rfl rfl)
theorem dX0_tellers_27 : decode cX0_tellers 27 = .ok (.iconst 1, 1) := dk_4 (dk_at dksX0_tellers_1 4 rfl rfl)
theorem dX0_tellers_28 : decode cX0_tellers 28 = .ok (.iload_n 2, 1) := dk_28 (dk_at dksX0_tellers_1 5 rfl rfl)
theorem dX0_tellers_29 : decode cX0_tellers 29 = .ok (.ishl, 1) := dk_120 (dk_at dksX0_tellers_1 6 rfl rfl)
theorem dX0_tellers_30 : decode cX0_tellers 30 = .ok (.invokevirtual 432, 3) := dk_182 1 176 (dk_at dksX0_tellers_1 7 rfl rfl)
theorem dX0_tellers_33 : decode cX0_tellers 33 = .ok (.iand, 1) := dk_126 (dk_at dksX0_tellers_1 10 rfl rfl)
theorem dX0_tellers_34 : decode cX0_tellers 34 = .ok (.invokevirtual 102, 3) := dk_182 0 102 (dk_at dksX0_tellers_1 11 rfl rfl)
theorem dX0_tellers_37 : decode cX0_tellers 37 = .ok (.goto 8, 3) := dk_167 0 8 (dk_at dksX0_tellers_1 14 rfl rfl)
theorem dX0_tellers_40 : decode cX0_tellers 40 = .ok (.aload_n 0, 1) := dk_42 (dk_at dksX0_tellers_1 17 rfl rfl)
theorem dX0_tellers_41 : decode cX0_tellers 41 = .ok (.iconst 2, 1) := dk_5 (dk_at dksX0_tellers_1 18 rfl rfl)
theorem dX0_tellers_42 : decode cX0_tellers 42 = .ok (.invokevirtual 98, 3) := dk_182 0 98 (dk_at dksX0_tellers_1 19 rfl rfl)
theorem dX0_tellers_45 : decode cX0_tellers 45 = .ok (.ireturn, 1) := dk_172 (dk_at dksX0_tellers_1 22 rfl rfl)
abbrev cX0_guestsOf : ByteArray := prog_1_method_81_code
def yX0_guestsOf : MethodName := ⟨RX0, "guestsOf", "(I)I"⟩
def dkwX0_guestsOf_3 : List UInt8 := [167, 255, 192, 28, 172]
abbrev dktX0_guestsOf_3 : List UInt8 := dkwX0_guestsOf_3 ++ []
def dkwX0_guestsOf_2 : List UInt8 := [153, 0, 10, 4, 21, 4, 120, 167, 0, 4, 3, 128, 61, 132, 4, 1, 167, 255, 212, 132, 3, 1]
abbrev dktX0_guestsOf_2 : List UInt8 := dkwX0_guestsOf_2 ++ dktX0_guestsOf_3
def dkwX0_guestsOf_1 : List UInt8 := [180, 0, 152, 162, 0, 38, 28, 27, 29, 184, 1, 23, 153, 0, 20, 42, 29, 21, 4, 182, 1, 173]
abbrev dktX0_guestsOf_1 : List UInt8 := dkwX0_guestsOf_1 ++ dktX0_guestsOf_2
def dkwX0_guestsOf_0 : List UInt8 := [3, 61, 3, 62, 29, 42, 180, 0, 38, 180, 0, 152, 162, 0, 59, 3, 54, 4, 21, 4, 42, 180, 0, 38]
abbrev dktX0_guestsOf_0 : List UInt8 := dkwX0_guestsOf_0 ++ dktX0_guestsOf_1
theorem dksX0_guestsOf_0 : cX0_guestsOf.data.toList.drop 0 = dktX0_guestsOf_0 := by decide +kernel
theorem dksX0_guestsOf_1 : cX0_guestsOf.data.toList.drop 24 = dktX0_guestsOf_1 := dk_seg dksX0_guestsOf_0 24 rfl rfl
theorem dksX0_guestsOf_2 : cX0_guestsOf.data.toList.drop 46 = dktX0_guestsOf_2 := dk_seg dksX0_guestsOf_1 22 rfl rfl
theorem dksX0_guestsOf_3 : cX0_guestsOf.data.toList.drop 68 = dktX0_guestsOf_3 := dk_seg dksX0_guestsOf_2 22 rfl rfl
theorem dX0_guestsOf_0 : decode cX0_guestsOf 0 = .ok (.iconst 0, 1) := dk_3 (dk_at dksX0_guestsOf_0 0 rfl rfl)
theorem dX0_guestsOf_1 : decode cX0_guestsOf 1 = .ok (.istore_n 2, 1) := dk_61 (dk_at dksX0_guestsOf_0 1 rfl rfl)
theorem dX0_guestsOf_2 : decode cX0_guestsOf 2 = .ok (.iconst 0, 1) := dk_3 (dk_at dksX0_guestsOf_0 2 rfl rfl)
theorem dX0_guestsOf_3 : decode cX0_guestsOf 3 = .ok (.istore_n 3, 1) := dk_62 (dk_at dksX0_guestsOf_0 3 rfl rfl)
theorem dX0_guestsOf_4 : decode cX0_guestsOf 4 = .ok (.iload_n 3, 1) := dk_29 (dk_at dksX0_guestsOf_0 4 rfl rfl)
theorem dX0_guestsOf_5 : decode cX0_guestsOf 5 = .ok (.aload_n 0, 1) := dk_42 (dk_at dksX0_guestsOf_0 5 rfl rfl)
theorem dX0_guestsOf_6 : decode cX0_guestsOf 6 = .ok (.getfield 38, 3) := dk_180 0 38 (dk_at dksX0_guestsOf_0 6 rfl rfl)
theorem dX0_guestsOf_9 : decode cX0_guestsOf 9 = .ok (.getfield 152, 3) := dk_180 0 152 (dk_at dksX0_guestsOf_0 9 rfl rfl)
theorem dX0_guestsOf_12 : decode cX0_guestsOf 12 = .ok (.if_icmp .ge 59, 3) := dk_162 0 59 (dk_at dksX0_guestsOf_0 12 rfl rfl)
theorem dX0_guestsOf_15 : decode cX0_guestsOf 15 = .ok (.iconst 0, 1) := dk_3 (dk_at dksX0_guestsOf_0 15 rfl rfl)
theorem dX0_guestsOf_16 : decode cX0_guestsOf 16 = .ok (.istore 4, 2) := dk_54 4 (dk_at dksX0_guestsOf_0 16 rfl rfl)
theorem dX0_guestsOf_18 : decode cX0_guestsOf 18 = .ok (.iload 4, 2) := dk_21 4 (dk_at dksX0_guestsOf_0 18 rfl rfl)
theorem dX0_guestsOf_20 : decode cX0_guestsOf 20 = .ok (.aload_n 0, 1) := dk_42 (dk_at dksX0_guestsOf_0 20 rfl rfl)
theorem dX0_guestsOf_21 : decode cX0_guestsOf 21 = .ok (.getfield 38, 3) := dk_180 0 38 (dk_at dksX0_guestsOf_0 21 rfl rfl)
theorem dX0_guestsOf_24 : decode cX0_guestsOf 24 = .ok (.getfield 152, 3) := dk_180 0 152 (dk_at dksX0_guestsOf_1 0 rfl rfl)
theorem dX0_guestsOf_27 : decode cX0_guestsOf 27 = .ok (.if_icmp .ge 38, 3) := dk_162 0 38 (dk_at dksX0_guestsOf_1 3 rfl rfl)
theorem dX0_guestsOf_30 : decode cX0_guestsOf 30 = .ok (.iload_n 2, 1) := dk_28 (dk_at dksX0_guestsOf_1 6 rfl rfl)
theorem dX0_guestsOf_31 : decode cX0_guestsOf 31 = .ok (.iload_n 1, 1) := dk_27 (dk_at dksX0_guestsOf_1 7 rfl rfl)
theorem dX0_guestsOf_32 : decode cX0_guestsOf 32 = .ok (.iload_n 3, 1) := dk_29 (dk_at dksX0_guestsOf_1 8 rfl rfl)
theorem dX0_guestsOf_33 : decode cX0_guestsOf 33 = .ok (.invokestatic 279, 3) := dk_184 1 23 (dk_at dksX0_guestsOf_1 9 rfl rfl)
theorem dX0_guestsOf_36 : decode cX0_guestsOf 36 = .ok (.ifCond .eq 20, 3) := dk_153 0 20 (dk_at dksX0_guestsOf_1 12 rfl rfl)
theorem dX0_guestsOf_39 : decode cX0_guestsOf 39 = .ok (.aload_n 0, 1) := dk_42 (dk_at dksX0_guestsOf_1 15 rfl rfl)
theorem dX0_guestsOf_40 : decode cX0_guestsOf 40 = .ok (.iload_n 3, 1) := dk_29 (dk_at dksX0_guestsOf_1 16 rfl rfl)
theorem dX0_guestsOf_41 : decode cX0_guestsOf 41 = .ok (.iload 4, 2) := dk_21 4 (dk_at dksX0_guestsOf_1 17 rfl rfl)
theorem dX0_guestsOf_43 : decode cX0_guestsOf 43 = .ok (.invokevirtual 429, 3) := dk_182 1 173 (dk_at dksX0_guestsOf_1 19 rfl rfl)
theorem dX0_guestsOf_46 : decode cX0_guestsOf 46 = .ok (.ifCond .eq 10, 3) := dk_153 0 10 (dk_at dksX0_guestsOf_2 0 rfl rfl)
theorem dX0_guestsOf_49 : decode cX0_guestsOf 49 = .ok (.iconst 1, 1) := dk_4 (dk_at dksX0_guestsOf_2 3 rfl rfl)
theorem dX0_guestsOf_50 : decode cX0_guestsOf 50 = .ok (.iload 4, 2) := dk_21 4 (dk_at dksX0_guestsOf_2 4 rfl rfl)
theorem dX0_guestsOf_52 : decode cX0_guestsOf 52 = .ok (.ishl, 1) := dk_120 (dk_at dksX0_guestsOf_2 6 rfl rfl)
theorem dX0_guestsOf_53 : decode cX0_guestsOf 53 = .ok (.goto 4, 3) := dk_167 0 4 (dk_at dksX0_guestsOf_2 7 rfl rfl)
theorem dX0_guestsOf_56 : decode cX0_guestsOf 56 = .ok (.iconst 0, 1) := dk_3 (dk_at dksX0_guestsOf_2 10 rfl rfl)
theorem dX0_guestsOf_57 : decode cX0_guestsOf 57 = .ok (.ior, 1) := dk_128 (dk_at dksX0_guestsOf_2 11 rfl rfl)
theorem dX0_guestsOf_58 : decode cX0_guestsOf 58 = .ok (.istore_n 2, 1) := dk_61 (dk_at dksX0_guestsOf_2 12 rfl rfl)
theorem dX0_guestsOf_59 : decode cX0_guestsOf 59 = .ok (.iinc 4 1, 3) := dk_132 4 1 (dk_at dksX0_guestsOf_2 13 rfl rfl)
theorem dX0_guestsOf_62 : decode cX0_guestsOf 62 = .ok (.goto (-44), 3) := dk_167 255 212 (dk_at dksX0_guestsOf_2 16 rfl rfl)
theorem dX0_guestsOf_65 : decode cX0_guestsOf 65 = .ok (.iinc 3 1, 3) := dk_132 3 1 (dk_at dksX0_guestsOf_2 19 rfl rfl)
theorem dX0_guestsOf_68 : decode cX0_guestsOf 68 = .ok (.goto (-64), 3) := dk_167 255 192 (dk_at dksX0_guestsOf_3 0 rfl rfl)
theorem dX0_guestsOf_71 : decode cX0_guestsOf 71 = .ok (.iload_n 2, 1) := dk_28 (dk_at dksX0_guestsOf_3 3 rfl rfl)
theorem dX0_guestsOf_72 : decode cX0_guestsOf 72 = .ok (.ireturn, 1) := dk_172 (dk_at dksX0_guestsOf_3 4 rfl rfl)
abbrev cX0_doDine : ByteArray := prog_1_method_80_code
def yX0_doDine : MethodName := ⟨RX0, "doDine", "(II)Z"⟩
def dkwX0_doDine_1 : List UInt8 := [182, 1, 170, 153, 0, 5, 4, 172, 132, 3, 1, 167, 255, 223, 3, 172]
abbrev dktX0_doDine_1 : List UInt8 := dkwX0_doDine_1 ++ []
def dkwX0_doDine_0 : List UInt8 := [3, 62, 29, 42, 180, 0, 38, 180, 0, 155, 162, 0, 28, 42, 180, 0, 38, 180, 1, 35, 29, 50, 27, 28]
abbrev dktX0_doDine_0 : List UInt8 := dkwX0_doDine_0 ++ dktX0_doDine_1
theorem dksX0_doDine_0 : cX0_doDine.data.toList.drop 0 = dktX0_doDine_0 := by decide +kernel
theorem dksX0_doDine_1 : cX0_doDine.data.toList.drop 24 = dktX0_doDine_1 := dk_seg dksX0_doDine_0 24 rfl rfl
theorem dX0_doDine_0 : decode cX0_doDine 0 = .ok (.iconst 0, 1) := dk_3 (dk_at dksX0_doDine_0 0 rfl rfl)
theorem dX0_doDine_1 : decode cX0_doDine 1 = .ok (.istore_n 3, 1) := dk_62 (dk_at dksX0_doDine_0 1 rfl rfl)
theorem dX0_doDine_2 : decode cX0_doDine 2 = .ok (.iload_n 3, 1) := dk_29 (dk_at dksX0_doDine_0 2 rfl rfl)
theorem dX0_doDine_3 : decode cX0_doDine 3 = .ok (.aload_n 0, 1) := dk_42 (dk_at dksX0_doDine_0 3 rfl rfl)
theorem dX0_doDine_4 : decode cX0_doDine 4 = .ok (.getfield 38, 3) := dk_180 0 38 (dk_at dksX0_doDine_0 4 rfl rfl)
theorem dX0_doDine_7 : decode cX0_doDine 7 = .ok (.getfield 155, 3) := dk_180 0 155 (dk_at dksX0_doDine_0 7 rfl rfl)
theorem dX0_doDine_10 : decode cX0_doDine 10 = .ok (.if_icmp .ge 28, 3) := dk_162 0 28 (dk_at dksX0_doDine_0 10 rfl rfl)
theorem dX0_doDine_13 : decode cX0_doDine 13 = .ok (.aload_n 0, 1) := dk_42 (dk_at dksX0_doDine_0 13 rfl rfl)
theorem dX0_doDine_14 : decode cX0_doDine 14 = .ok (.getfield 38, 3) := dk_180 0 38 (dk_at dksX0_doDine_0 14 rfl rfl)
theorem dX0_doDine_17 : decode cX0_doDine 17 = .ok (.getfield 291, 3) := dk_180 1 35 (dk_at dksX0_doDine_0 17 rfl rfl)
theorem dX0_doDine_20 : decode cX0_doDine 20 = .ok (.iload_n 3, 1) := dk_29 (dk_at dksX0_doDine_0 20 rfl rfl)
theorem dX0_doDine_21 : decode cX0_doDine 21 = .ok (.aaload, 1) := dk_50 (dk_at dksX0_doDine_0 21 rfl rfl)
theorem dX0_doDine_22 : decode cX0_doDine 22 = .ok (.iload_n 1, 1) := dk_27 (dk_at dksX0_doDine_0 22 rfl rfl)
theorem dX0_doDine_23 : decode cX0_doDine 23 = .ok (.iload_n 2, 1) := dk_28 (dk_at dksX0_doDine_0 23 rfl rfl)
theorem dX0_doDine_24 : decode cX0_doDine 24 = .ok (.invokevirtual 426, 3) := dk_182 1 170 (dk_at dksX0_doDine_1 0 rfl rfl)
theorem dX0_doDine_27 : decode cX0_doDine 27 = .ok (.ifCond .eq 5, 3) := dk_153 0 5 (dk_at dksX0_doDine_1 3 rfl rfl)
theorem dX0_doDine_30 : decode cX0_doDine 30 = .ok (.iconst 1, 1) := dk_4 (dk_at dksX0_doDine_1 6 rfl rfl)
theorem dX0_doDine_31 : decode cX0_doDine 31 = .ok (.ireturn, 1) := dk_172 (dk_at dksX0_doDine_1 7 rfl rfl)
theorem dX0_doDine_32 : decode cX0_doDine 32 = .ok (.iinc 3 1, 3) := dk_132 3 1 (dk_at dksX0_doDine_1 8 rfl rfl)
theorem dX0_doDine_35 : decode cX0_doDine 35 = .ok (.goto (-33), 3) := dk_167 255 223 (dk_at dksX0_doDine_1 11 rfl rfl)
theorem dX0_doDine_38 : decode cX0_doDine 38 = .ok (.iconst 0, 1) := dk_3 (dk_at dksX0_doDine_1 14 rfl rfl)
theorem dX0_doDine_39 : decode cX0_doDine 39 = .ok (.ireturn, 1) := dk_172 (dk_at dksX0_doDine_1 15 rfl rfl)
abbrev cX0_rumour : ByteArray := prog_1_method_83_code
def yX0_rumour : MethodName := ⟨RX0, "rumour", "(II)I"⟩
def dkwX0_rumour_3 : List UInt8 := [42, 16, 8, 182, 0, 98, 172]
abbrev dktX0_rumour_3 : List UInt8 := dkwX0_rumour_3 ++ []
def dkwX0_rumour_2 : List UInt8 := [153, 0, 10, 42, 21, 4, 182, 0, 102, 172, 29, 42, 29, 182, 1, 176, 128, 62, 132, 4, 1, 167, 255, 223]
abbrev dktX0_rumour_2 : List UInt8 := dkwX0_rumour_2 ++ dktX0_rumour_3
def dkwX0_rumour_1 : List UInt8 := [180, 0, 38, 27, 3, 182, 1, 1, 62, 3, 54, 4, 21, 4, 16, 6, 163, 0, 32, 29, 28, 184, 1, 23]
abbrev dktX0_rumour_1 : List UInt8 := dkwX0_rumour_1 ++ dktX0_rumour_2
def dkwX0_rumour_0 : List UInt8 := [42, 27, 182, 0, 242, 153, 0, 11, 42, 28, 182, 1, 8, 154, 0, 9, 42, 5, 182, 0, 98, 172, 42]
abbrev dktX0_rumour_0 : List UInt8 := dkwX0_rumour_0 ++ dktX0_rumour_1
theorem dksX0_rumour_0 : cX0_rumour.data.toList.drop 0 = dktX0_rumour_0 := by decide +kernel
theorem dksX0_rumour_1 : cX0_rumour.data.toList.drop 23 = dktX0_rumour_1 := dk_seg dksX0_rumour_0 23 rfl rfl
theorem dksX0_rumour_2 : cX0_rumour.data.toList.drop 47 = dktX0_rumour_2 := dk_seg dksX0_rumour_1 24 rfl rfl
theorem dksX0_rumour_3 : cX0_rumour.data.toList.drop 71 = dktX0_rumour_3 := dk_seg dksX0_rumour_2 24 rfl rfl
theorem dX0_rumour_0 : decode cX0_rumour 0 = .ok (.aload_n 0, 1) := dk_42 (dk_at dksX0_rumour_0 0 rfl rfl)
theorem dX0_rumour_1 : decode cX0_rumour 1 = .ok (.iload_n 1, 1) := dk_27 (dk_at dksX0_rumour_0 1 rfl rfl)
theorem dX0_rumour_2 : decode cX0_rumour 2 = .ok (.invokevirtual 242, 3) := dk_182 0 242 (dk_at dksX0_rumour_0 2 rfl rfl)
theorem dX0_rumour_5 : decode cX0_rumour 5 = .ok (.ifCond .eq 11, 3) := dk_153 0 11 (dk_at dksX0_rumour_0 5 rfl rfl)
theorem dX0_rumour_8 : decode cX0_rumour 8 = .ok (.aload_n 0, 1) := dk_42 (dk_at dksX0_rumour_0 8 rfl rfl)
theorem dX0_rumour_9 : decode cX0_rumour 9 = .ok (.iload_n 2, 1) := dk_28 (dk_at dksX0_rumour_0 9 rfl rfl)
theorem dX0_rumour_10 : decode cX0_rumour 10 = .ok (.invokevirtual 264, 3) := dk_182 1 8 (dk_at dksX0_rumour_0 10 rfl rfl)
theorem dX0_rumour_13 : decode cX0_rumour 13 = .ok (.ifCond .ne 9, 3) := dk_154 0 9 (dk_at dksX0_rumour_0 13 rfl rfl)
theorem dX0_rumour_16 : decode cX0_rumour 16 = .ok (.aload_n 0, 1) := dk_42 (dk_at dksX0_rumour_0 16 rfl rfl)
theorem dX0_rumour_17 : decode cX0_rumour 17 = .ok (.iconst 2, 1) := dk_5 (dk_at dksX0_rumour_0 17 rfl rfl)
theorem dX0_rumour_18 : decode cX0_rumour 18 = .ok (.invokevirtual 98, 3) := dk_182 0 98 (dk_at dksX0_rumour_0 18 rfl rfl)
theorem dX0_rumour_21 : decode cX0_rumour 21 = .ok (.ireturn, 1) := dk_172 (dk_at dksX0_rumour_0 21 rfl rfl)
theorem dX0_rumour_22 : decode cX0_rumour 22 = .ok (.aload_n 0, 1) := dk_42 (dk_at dksX0_rumour_0 22 rfl rfl)
theorem dX0_rumour_23 : decode cX0_rumour 23 = .ok (.getfield 38, 3) := dk_180 0 38 (dk_at dksX0_rumour_1 0 rfl rfl)
theorem dX0_rumour_26 : decode cX0_rumour 26 = .ok (.iload_n 1, 1) := dk_27 (dk_at dksX0_rumour_1 3 rfl rfl)
theorem dX0_rumour_27 : decode cX0_rumour 27 = .ok (.iconst 0, 1) := dk_3 (dk_at dksX0_rumour_1 4 rfl rfl)
theorem dX0_rumour_28 : decode cX0_rumour 28 = .ok (.invokevirtual 257, 3) := dk_182 1 1 (dk_at dksX0_rumour_1 5 rfl rfl)
theorem dX0_rumour_31 : decode cX0_rumour 31 = .ok (.istore_n 3, 1) := dk_62 (dk_at dksX0_rumour_1 8 rfl rfl)
theorem dX0_rumour_32 : decode cX0_rumour 32 = .ok (.iconst 0, 1) := dk_3 (dk_at dksX0_rumour_1 9 rfl rfl)
theorem dX0_rumour_33 : decode cX0_rumour 33 = .ok (.istore 4, 2) := dk_54 4 (dk_at dksX0_rumour_1 10 rfl rfl)
theorem dX0_rumour_35 : decode cX0_rumour 35 = .ok (.iload 4, 2) := dk_21 4 (dk_at dksX0_rumour_1 12 rfl rfl)
theorem dX0_rumour_37 : decode cX0_rumour 37 = .ok (.bipush 6, 2) := dk_16 6 (dk_at dksX0_rumour_1 14 rfl rfl)
theorem dX0_rumour_39 : decode cX0_rumour 39 = .ok (.if_icmp .gt 32, 3) := dk_163 0 32 (dk_at dksX0_rumour_1 16 rfl rfl)
theorem dX0_rumour_42 : decode cX0_rumour 42 = .ok (.iload_n 3, 1) := dk_29 (dk_at dksX0_rumour_1 19 rfl rfl)
theorem dX0_rumour_43 : decode cX0_rumour 43 = .ok (.iload_n 2, 1) := dk_28 (dk_at dksX0_rumour_1 20 rfl rfl)
theorem dX0_rumour_44 : decode cX0_rumour 44 = .ok (.invokestatic 279, 3) := dk_184 1 23 (dk_at dksX0_rumour_1 21 rfl rfl)
theorem dX0_rumour_47 : decode cX0_rumour 47 = .ok (.ifCond .eq 10, 3) := dk_153 0 10 (dk_at dksX0_rumour_2 0 rfl rfl)
theorem dX0_rumour_50 : decode cX0_rumour 50 = .ok (.aload_n 0, 1) := dk_42 (dk_at dksX0_rumour_2 3 rfl rfl)
theorem dX0_rumour_51 : decode cX0_rumour 51 = .ok (.iload 4, 2) := dk_21 4 (dk_at dksX0_rumour_2 4 rfl rfl)
theorem dX0_rumour_53 : decode cX0_rumour 53 = .ok (.invokevirtual 102, 3) := dk_182 0 102 (dk_at dksX0_rumour_2 6 rfl rfl)
theorem dX0_rumour_56 : decode cX0_rumour 56 = .ok (.ireturn, 1) := dk_172 (dk_at dksX0_rumour_2 9 rfl rfl)
theorem dX0_rumour_57 : decode cX0_rumour 57 = .ok (.iload_n 3, 1) := dk_29 (dk_at dksX0_rumour_2 10 rfl rfl)
theorem dX0_rumour_58 : decode cX0_rumour 58 = .ok (.aload_n 0, 1) := dk_42 (dk_at dksX0_rumour_2 11 rfl rfl)
theorem dX0_rumour_59 : decode cX0_rumour 59 = .ok (.iload_n 3, 1) := dk_29 (dk_at dksX0_rumour_2 12 rfl rfl)
theorem dX0_rumour_60 : decode cX0_rumour 60 = .ok (.invokevirtual 432, 3) := dk_182 1 176 (dk_at dksX0_rumour_2 13 rfl rfl)
theorem dX0_rumour_63 : decode cX0_rumour 63 = .ok (.ior, 1) := dk_128 (dk_at dksX0_rumour_2 16 rfl rfl)
theorem dX0_rumour_64 : decode cX0_rumour 64 = .ok (.istore_n 3, 1) := dk_62 (dk_at dksX0_rumour_2 17 rfl rfl)
theorem dX0_rumour_65 : decode cX0_rumour 65 = .ok (.iinc 4 1, 3) := dk_132 4 1 (dk_at dksX0_rumour_2 18 rfl rfl)
theorem dX0_rumour_68 : decode cX0_rumour 68 = .ok (.goto (-33), 3) := dk_167 255 223 (dk_at dksX0_rumour_2 21 rfl rfl)
theorem dX0_rumour_71 : decode cX0_rumour 71 = .ok (.aload_n 0, 1) := dk_42 (dk_at dksX0_rumour_3 0 rfl rfl)
theorem dX0_rumour_72 : decode cX0_rumour 72 = .ok (.bipush 8, 2) := dk_16 8 (dk_at dksX0_rumour_3 1 rfl rfl)
theorem dX0_rumour_74 : decode cX0_rumour 74 = .ok (.invokevirtual 98, 3) := dk_182 0 98 (dk_at dksX0_rumour_3 3 rfl rfl)
theorem dX0_rumour_77 : decode cX0_rumour 77 = .ok (.ireturn, 1) := dk_172 (dk_at dksX0_rumour_3 6 rfl rfl)
abbrev cX0_game : ByteArray := prog_1_method_87_code
def yX0_game : MethodName := ⟨RX0, "game", "(III)I"⟩
def dkwX0_game_1 : List UInt8 := [42, 42, 27, 28, 29, 182, 1, 208, 182, 0, 102, 172]
abbrev dktX0_game_1 : List UInt8 := dkwX0_game_1 ++ []
def dkwX0_game_0 : List UInt8 := [42, 27, 28, 29, 3, 182, 1, 204, 54, 4, 21, 4, 158, 0, 12, 42, 21, 4, 182, 0, 98, 167, 0, 14]
abbrev dktX0_game_0 : List UInt8 := dkwX0_game_0 ++ dktX0_game_1
theorem dksX0_game_0 : cX0_game.data.toList.drop 0 = dktX0_game_0 := by decide +kernel
theorem dksX0_game_1 : cX0_game.data.toList.drop 24 = dktX0_game_1 := dk_seg dksX0_game_0 24 rfl rfl
theorem dX0_game_0 : decode cX0_game 0 = .ok (.aload_n 0, 1) := dk_42 (dk_at dksX0_game_0 0 rfl rfl)
theorem dX0_game_1 : decode cX0_game 1 = .ok (.iload_n 1, 1) := dk_27 (dk_at dksX0_game_0 1 rfl rfl)
theorem dX0_game_2 : decode cX0_game 2 = .ok (.iload_n 2, 1) := dk_28 (dk_at dksX0_game_0 2 rfl rfl)
theorem dX0_game_3 : decode cX0_game 3 = .ok (.iload_n 3, 1) := dk_29 (dk_at dksX0_game_0 3 rfl rfl)
theorem dX0_game_4 : decode cX0_game 4 = .ok (.iconst 0, 1) := dk_3 (dk_at dksX0_game_0 4 rfl rfl)
theorem dX0_game_5 : decode cX0_game 5 = .ok (.invokevirtual 460, 3) := dk_182 1 204 (dk_at dksX0_game_0 5 rfl rfl)
theorem dX0_game_8 : decode cX0_game 8 = .ok (.istore 4, 2) := dk_54 4 (dk_at dksX0_game_0 8 rfl rfl)
theorem dX0_game_10 : decode cX0_game 10 = .ok (.iload 4, 2) := dk_21 4 (dk_at dksX0_game_0 10 rfl rfl)
theorem dX0_game_12 : decode cX0_game 12 = .ok (.ifCond .le 12, 3) := dk_158 0 12 (dk_at dksX0_game_0 12 rfl rfl)
theorem dX0_game_15 : decode cX0_game 15 = .ok (.aload_n 0, 1) := dk_42 (dk_at dksX0_game_0 15 rfl rfl)
theorem dX0_game_16 : decode cX0_game 16 = .ok (.iload 4, 2) := dk_21 4 (dk_at dksX0_game_0 16 rfl rfl)
theorem dX0_game_18 : decode cX0_game 18 = .ok (.invokevirtual 98, 3) := dk_182 0 98 (dk_at dksX0_game_0 18 rfl rfl)
theorem dX0_game_21 : decode cX0_game 21 = .ok (.goto 14, 3) := dk_167 0 14 (dk_at dksX0_game_0 21 rfl rfl)
theorem dX0_game_24 : decode cX0_game 24 = .ok (.aload_n 0, 1) := dk_42 (dk_at dksX0_game_1 0 rfl rfl)
theorem dX0_game_25 : decode cX0_game 25 = .ok (.aload_n 0, 1) := dk_42 (dk_at dksX0_game_1 1 rfl rfl)
theorem dX0_game_26 : decode cX0_game 26 = .ok (.iload_n 1, 1) := dk_27 (dk_at dksX0_game_1 2 rfl rfl)
theorem dX0_game_27 : decode cX0_game 27 = .ok (.iload_n 2, 1) := dk_28 (dk_at dksX0_game_1 3 rfl rfl)
theorem dX0_game_28 : decode cX0_game 28 = .ok (.iload_n 3, 1) := dk_29 (dk_at dksX0_game_1 4 rfl rfl)
theorem dX0_game_29 : decode cX0_game 29 = .ok (.invokevirtual 464, 3) := dk_182 1 208 (dk_at dksX0_game_1 5 rfl rfl)
theorem dX0_game_32 : decode cX0_game 32 = .ok (.invokevirtual 102, 3) := dk_182 0 102 (dk_at dksX0_game_1 8 rfl rfl)
theorem dX0_game_35 : decode cX0_game 35 = .ok (.ireturn, 1) := dk_172 (dk_at dksX0_game_1 11 rfl rfl)
abbrev cX0_wrongGame : ByteArray := prog_1_method_86_code
def yX0_wrongGame : MethodName := ⟨RX0, "wrongGame", "(IIII)I"⟩
def dkwX0_wrongGame_1 : List UInt8 := [159, 0, 17, 29, 133, 21, 4, 133, 20, 1, 202, 184, 0, 162, 154, 0, 7, 8, 167, 0, 4, 3, 172]
abbrev dktX0_wrongGame_1 : List UInt8 := dkwX0_wrongGame_1 ++ []
def dkwX0_wrongGame_0 : List UInt8 := [42, 27, 182, 1, 8, 153, 0, 11, 42, 28, 182, 1, 8, 154, 0, 7, 5, 167, 0, 27, 27, 28]
abbrev dktX0_wrongGame_0 : List UInt8 := dkwX0_wrongGame_0 ++ dktX0_wrongGame_1
theorem dksX0_wrongGame_0 : cX0_wrongGame.data.toList.drop 0 = dktX0_wrongGame_0 := by decide +kernel
theorem dksX0_wrongGame_1 : cX0_wrongGame.data.toList.drop 22 = dktX0_wrongGame_1 := dk_seg dksX0_wrongGame_0 22 rfl rfl
theorem dX0_wrongGame_0 : decode cX0_wrongGame 0 = .ok (.aload_n 0, 1) := dk_42 (dk_at dksX0_wrongGame_0 0 rfl rfl)
theorem dX0_wrongGame_1 : decode cX0_wrongGame 1 = .ok (.iload_n 1, 1) := dk_27 (dk_at dksX0_wrongGame_0 1 rfl rfl)
theorem dX0_wrongGame_2 : decode cX0_wrongGame 2 = .ok (.invokevirtual 264, 3) := dk_182 1 8 (dk_at dksX0_wrongGame_0 2 rfl rfl)
theorem dX0_wrongGame_5 : decode cX0_wrongGame 5 = .ok (.ifCond .eq 11, 3) := dk_153 0 11 (dk_at dksX0_wrongGame_0 5 rfl rfl)
theorem dX0_wrongGame_8 : decode cX0_wrongGame 8 = .ok (.aload_n 0, 1) := dk_42 (dk_at dksX0_wrongGame_0 8 rfl rfl)
theorem dX0_wrongGame_9 : decode cX0_wrongGame 9 = .ok (.iload_n 2, 1) := dk_28 (dk_at dksX0_wrongGame_0 9 rfl rfl)
theorem dX0_wrongGame_10 : decode cX0_wrongGame 10 = .ok (.invokevirtual 264, 3) := dk_182 1 8 (dk_at dksX0_wrongGame_0 10 rfl rfl)
theorem dX0_wrongGame_13 : decode cX0_wrongGame 13 = .ok (.ifCond .ne 7, 3) := dk_154 0 7 (dk_at dksX0_wrongGame_0 13 rfl rfl)
theorem dX0_wrongGame_16 : decode cX0_wrongGame 16 = .ok (.iconst 2, 1) := dk_5 (dk_at dksX0_wrongGame_0 16 rfl rfl)
theorem dX0_wrongGame_17 : decode cX0_wrongGame 17 = .ok (.goto 27, 3) := dk_167 0 27 (dk_at dksX0_wrongGame_0 17 rfl rfl)
theorem dX0_wrongGame_20 : decode cX0_wrongGame 20 = .ok (.iload_n 1, 1) := dk_27 (dk_at dksX0_wrongGame_0 20 rfl rfl)
theorem dX0_wrongGame_21 : decode cX0_wrongGame 21 = .ok (.iload_n 2, 1) := dk_28 (dk_at dksX0_wrongGame_0 21 rfl rfl)
theorem dX0_wrongGame_22 : decode cX0_wrongGame 22 = .ok (.if_icmp .eq 17, 3) := dk_159 0 17 (dk_at dksX0_wrongGame_1 0 rfl rfl)
theorem dX0_wrongGame_25 : decode cX0_wrongGame 25 = .ok (.iload_n 3, 1) := dk_29 (dk_at dksX0_wrongGame_1 3 rfl rfl)
theorem dX0_wrongGame_26 : decode cX0_wrongGame 26 = .ok (.i2l, 1) := dk_133 (dk_at dksX0_wrongGame_1 4 rfl rfl)
theorem dX0_wrongGame_27 : decode cX0_wrongGame 27 = .ok (.iload 4, 2) := dk_21 4 (dk_at dksX0_wrongGame_1 5 rfl rfl)
theorem dX0_wrongGame_29 : decode cX0_wrongGame 29 = .ok (.i2l, 1) := dk_133 (dk_at dksX0_wrongGame_1 7 rfl rfl)
theorem dX0_wrongGame_30 : decode cX0_wrongGame 30 = .ok (.ldc2_w 458, 3) := dk_20 1 202 (dk_at dksX0_wrongGame_1 8 rfl rfl)
theorem dX0_wrongGame_33 : decode cX0_wrongGame 33 = .ok (.invokestatic 162, 3) := dk_184 0 162 (dk_at dksX0_wrongGame_1 11 rfl rfl)
theorem dX0_wrongGame_36 : decode cX0_wrongGame 36 = .ok (.ifCond .ne 7, 3) := dk_154 0 7 (dk_at dksX0_wrongGame_1 14 rfl rfl)
theorem dX0_wrongGame_39 : decode cX0_wrongGame 39 = .ok (.iconst 5, 1) := dk_8 (dk_at dksX0_wrongGame_1 17 rfl rfl)
theorem dX0_wrongGame_40 : decode cX0_wrongGame 40 = .ok (.goto 4, 3) := dk_167 0 4 (dk_at dksX0_wrongGame_1 18 rfl rfl)
theorem dX0_wrongGame_43 : decode cX0_wrongGame 43 = .ok (.iconst 0, 1) := dk_3 (dk_at dksX0_wrongGame_1 21 rfl rfl)
theorem dX0_wrongGame_44 : decode cX0_wrongGame 44 = .ok (.ireturn, 1) := dk_172 (dk_at dksX0_wrongGame_1 22 rfl rfl)
abbrev cX0_playing : ByteArray := prog_1_method_85_code
def yX0_playing : MethodName := ⟨RX0, "playing", "(III)I"⟩
def dkwX0_playing_1 : List UInt8 := [50, 42, 180, 0, 38, 180, 0, 211, 28, 50, 182, 1, 182, 87, 42, 3, 29, 182, 1, 199, 172]
abbrev dktX0_playing_1 : List UInt8 := dkwX0_playing_1 ++ []
def dkwX0_playing_0 : List UInt8 := [42, 180, 0, 69, 3, 50, 42, 180, 0, 38, 180, 0, 211, 27, 50, 182, 1, 182, 87, 42, 180, 0, 73, 3]
abbrev dktX0_playing_0 : List UInt8 := dkwX0_playing_0 ++ dktX0_playing_1
theorem dksX0_playing_0 : cX0_playing.data.toList.drop 0 = dktX0_playing_0 := by decide +kernel
theorem dksX0_playing_1 : cX0_playing.data.toList.drop 24 = dktX0_playing_1 := dk_seg dksX0_playing_0 24 rfl rfl
theorem dX0_playing_0 : decode cX0_playing 0 = .ok (.aload_n 0, 1) := dk_42 (dk_at dksX0_playing_0 0 rfl rfl)
theorem dX0_playing_1 : decode cX0_playing 1 = .ok (.getfield 69, 3) := dk_180 0 69 (dk_at dksX0_playing_0 1 rfl rfl)
theorem dX0_playing_4 : decode cX0_playing 4 = .ok (.iconst 0, 1) := dk_3 (dk_at dksX0_playing_0 4 rfl rfl)
theorem dX0_playing_5 : decode cX0_playing 5 = .ok (.aaload, 1) := dk_50 (dk_at dksX0_playing_0 5 rfl rfl)
theorem dX0_playing_6 : decode cX0_playing 6 = .ok (.aload_n 0, 1) := dk_42 (dk_at dksX0_playing_0 6 rfl rfl)
theorem dX0_playing_7 : decode cX0_playing 7 = .ok (.getfield 38, 3) := dk_180 0 38 (dk_at dksX0_playing_0 7 rfl rfl)
theorem dX0_playing_10 : decode cX0_playing 10 = .ok (.getfield 211, 3) := dk_180 0 211 (dk_at dksX0_playing_0 10 rfl rfl)
theorem dX0_playing_13 : decode cX0_playing 13 = .ok (.iload_n 1, 1) := dk_27 (dk_at dksX0_playing_0 13 rfl rfl)
theorem dX0_playing_14 : decode cX0_playing 14 = .ok (.aaload, 1) := dk_50 (dk_at dksX0_playing_0 14 rfl rfl)
theorem dX0_playing_15 : decode cX0_playing 15 = .ok (.invokevirtual 438, 3) := dk_182 1 182 (dk_at dksX0_playing_0 15 rfl rfl)
theorem dX0_playing_18 : decode cX0_playing 18 = .ok (.pop, 1) := dk_87 (dk_at dksX0_playing_0 18 rfl rfl)
theorem dX0_playing_19 : decode cX0_playing 19 = .ok (.aload_n 0, 1) := dk_42 (dk_at dksX0_playing_0 19 rfl rfl)
theorem dX0_playing_20 : decode cX0_playing 20 = .ok (.getfield 73, 3) := dk_180 0 73 (dk_at dksX0_playing_0 20 rfl rfl)
theorem dX0_playing_23 : decode cX0_playing 23 = .ok (.iconst 0, 1) := dk_3 (dk_at dksX0_playing_0 23 rfl rfl)
theorem dX0_playing_24 : decode cX0_playing 24 = .ok (.aaload, 1) := dk_50 (dk_at dksX0_playing_1 0 rfl rfl)
theorem dX0_playing_25 : decode cX0_playing 25 = .ok (.aload_n 0, 1) := dk_42 (dk_at dksX0_playing_1 1 rfl rfl)
theorem dX0_playing_26 : decode cX0_playing 26 = .ok (.getfield 38, 3) := dk_180 0 38 (dk_at dksX0_playing_1 2 rfl rfl)
theorem dX0_playing_29 : decode cX0_playing 29 = .ok (.getfield 211, 3) := dk_180 0 211 (dk_at dksX0_playing_1 5 rfl rfl)
theorem dX0_playing_32 : decode cX0_playing 32 = .ok (.iload_n 2, 1) := dk_28 (dk_at dksX0_playing_1 8 rfl rfl)
theorem dX0_playing_33 : decode cX0_playing 33 = .ok (.aaload, 1) := dk_50 (dk_at dksX0_playing_1 9 rfl rfl)
theorem dX0_playing_34 : decode cX0_playing 34 = .ok (.invokevirtual 438, 3) := dk_182 1 182 (dk_at dksX0_playing_1 10 rfl rfl)
theorem dX0_playing_37 : decode cX0_playing 37 = .ok (.pop, 1) := dk_87 (dk_at dksX0_playing_1 13 rfl rfl)
theorem dX0_playing_38 : decode cX0_playing 38 = .ok (.aload_n 0, 1) := dk_42 (dk_at dksX0_playing_1 14 rfl rfl)
theorem dX0_playing_39 : decode cX0_playing 39 = .ok (.iconst 0, 1) := dk_3 (dk_at dksX0_playing_1 15 rfl rfl)
theorem dX0_playing_40 : decode cX0_playing 40 = .ok (.iload_n 3, 1) := dk_29 (dk_at dksX0_playing_1 16 rfl rfl)
theorem dX0_playing_41 : decode cX0_playing 41 = .ok (.invokevirtual 455, 3) := dk_182 1 199 (dk_at dksX0_playing_1 17 rfl rfl)
theorem dX0_playing_44 : decode cX0_playing 44 = .ok (.ireturn, 1) := dk_172 (dk_at dksX0_playing_1 20 rfl rfl)
abbrev cX0_plays : ByteArray := prog_1_method_84_code
def yX0_plays : MethodName := ⟨RX0, "plays", "(II)I"⟩
def dkwX0_plays_10 : List UInt8 := [167, 0, 10, 21, 8, 62, 21, 5, 54, 4, 132, 5, 1, 167, 255, 46, 42, 21, 4, 181, 1, 179, 29, 172]
abbrev dktX0_plays_10 : List UInt8 := dkwX0_plays_10 ++ []
def dkwX0_plays_9 : List UInt8 := [159, 0, 27, 27, 5, 112, 154, 0, 12, 21, 8, 29, 163, 0, 15, 167, 0, 19, 21, 8, 29, 161, 0, 6]
abbrev dktX0_plays_9 : List UInt8 := dkwX0_plays_9 ++ dktX0_plays_10
def dkwX0_plays_8 : List UInt8 := [180, 0, 38, 180, 0, 245, 182, 1, 196, 42, 27, 4, 96, 28, 182, 1, 199, 54, 8, 21, 4, 2]
abbrev dktX0_plays_8 : List UInt8 := dkwX0_plays_8 ++ dktX0_plays_9
def dkwX0_plays_7 : List UInt8 := [25, 6, 21, 5, 25, 7, 182, 1, 192, 25, 6, 42, 180, 0, 38, 180, 0, 245, 182, 1, 196, 25, 7, 42]
abbrev dktX0_plays_7 : List UInt8 := dkwX0_plays_7 ++ dktX0_plays_8
def dkwX0_plays_6 : List UInt8 := [42, 180, 0, 30, 25, 6, 21, 5, 25, 7, 182, 1, 186, 154, 0, 6, 167, 0, 87, 42, 180, 0, 30]
abbrev dktX0_plays_6 : List UInt8 := dkwX0_plays_6 ++ dktX0_plays_7
def dkwX0_plays_5 : List UInt8 := [27, 4, 96, 50, 167, 0, 11, 42, 180, 0, 69, 27, 4, 96, 50, 58, 7, 21, 5, 16, 8, 162, 0, 35]
abbrev dktX0_plays_5 : List UInt8 := dkwX0_plays_5 ++ dktX0_plays_6
def dkwX0_plays_4 : List UInt8 := [50, 167, 0, 11, 42, 180, 0, 73, 27, 4, 96, 50, 58, 6, 27, 5, 112, 154, 0, 14, 42, 180, 0, 73]
abbrev dktX0_plays_4 : List UInt8 := dkwX0_plays_4 ++ dktX0_plays_5
def dkwX0_plays_3 : List UInt8 := [50, 42, 180, 0, 73, 27, 50, 182, 1, 182, 87, 27, 5, 112, 154, 0, 14, 42, 180, 0, 69, 27, 4, 96]
abbrev dktX0_plays_3 : List UInt8 := dkwX0_plays_3 ++ dktX0_plays_4
def dkwX0_plays_2 : List UInt8 := [180, 0, 69, 27, 4, 96, 50, 42, 180, 0, 69, 27, 50, 182, 1, 182, 87, 42, 180, 0, 73, 27, 4, 96]
abbrev dktX0_plays_2 : List UInt8 := dkwX0_plays_2 ++ dktX0_plays_3
def dkwX0_plays_1 : List UInt8 := [50, 182, 1, 20, 100, 172, 3, 62, 2, 54, 4, 3, 54, 5, 21, 5, 16, 8, 163, 0, 209, 42]
abbrev dktX0_plays_1 : List UInt8 := dkwX0_plays_1 ++ dktX0_plays_2
def dkwX0_plays_0 : List UInt8 := [42, 2, 181, 1, 179, 27, 28, 160, 0, 23, 42, 180, 0, 73, 27, 50, 182, 1, 20, 42, 180, 0, 69, 27]
abbrev dktX0_plays_0 : List UInt8 := dkwX0_plays_0 ++ dktX0_plays_1
theorem dksX0_plays_0 : cX0_plays.data.toList.drop 0 = dktX0_plays_0 := by decide +kernel
theorem dksX0_plays_1 : cX0_plays.data.toList.drop 24 = dktX0_plays_1 := dk_seg dksX0_plays_0 24 rfl rfl
theorem dksX0_plays_2 : cX0_plays.data.toList.drop 46 = dktX0_plays_2 := dk_seg dksX0_plays_1 22 rfl rfl
theorem dksX0_plays_3 : cX0_plays.data.toList.drop 70 = dktX0_plays_3 := dk_seg dksX0_plays_2 24 rfl rfl
theorem dksX0_plays_4 : cX0_plays.data.toList.drop 94 = dktX0_plays_4 := dk_seg dksX0_plays_3 24 rfl rfl
theorem dksX0_plays_5 : cX0_plays.data.toList.drop 118 = dktX0_plays_5 := dk_seg dksX0_plays_4 24 rfl rfl
theorem dksX0_plays_6 : cX0_plays.data.toList.drop 142 = dktX0_plays_6 := dk_seg dksX0_plays_5 24 rfl rfl
theorem dksX0_plays_7 : cX0_plays.data.toList.drop 165 = dktX0_plays_7 := dk_seg dksX0_plays_6 23 rfl rfl
theorem dksX0_plays_8 : cX0_plays.data.toList.drop 189 = dktX0_plays_8 := dk_seg dksX0_plays_7 24 rfl rfl
theorem dksX0_plays_9 : cX0_plays.data.toList.drop 211 = dktX0_plays_9 := dk_seg dksX0_plays_8 22 rfl rfl
theorem dksX0_plays_10 : cX0_plays.data.toList.drop 235 = dktX0_plays_10 := dk_seg dksX0_plays_9 24 rfl rfl
theorem dX0_plays_0 : decode cX0_plays 0 = .ok (.aload_n 0, 1) := dk_42 (dk_at dksX0_plays_0 0 rfl rfl)
theorem dX0_plays_1 : decode cX0_plays 1 = .ok (.iconst (-1), 1) := dk_2 (dk_at dksX0_plays_0 1 rfl rfl)
theorem dX0_plays_2 : decode cX0_plays 2 = .ok (.putfield 435, 3) := dk_181 1 179 (dk_at dksX0_plays_0 2 rfl rfl)
theorem dX0_plays_5 : decode cX0_plays 5 = .ok (.iload_n 1, 1) := dk_27 (dk_at dksX0_plays_0 5 rfl rfl)
theorem dX0_plays_6 : decode cX0_plays 6 = .ok (.iload_n 2, 1) := dk_28 (dk_at dksX0_plays_0 6 rfl rfl)
theorem dX0_plays_7 : decode cX0_plays 7 = .ok (.if_icmp .ne 23, 3) := dk_160 0 23 (dk_at dksX0_plays_0 7 rfl rfl)
theorem dX0_plays_10 : decode cX0_plays 10 = .ok (.aload_n 0, 1) := dk_42 (dk_at dksX0_plays_0 10 rfl rfl)
theorem dX0_plays_11 : decode cX0_plays 11 = .ok (.getfield 73, 3) := dk_180 0 73 (dk_at dksX0_plays_0 11 rfl rfl)
theorem dX0_plays_14 : decode cX0_plays 14 = .ok (.iload_n 1, 1) := dk_27 (dk_at dksX0_plays_0 14 rfl rfl)
theorem dX0_plays_15 : decode cX0_plays 15 = .ok (.aaload, 1) := dk_50 (dk_at dksX0_plays_0 15 rfl rfl)
theorem dX0_plays_16 : decode cX0_plays 16 = .ok (.invokevirtual 276, 3) := dk_182 1 20 (dk_at dksX0_plays_0 16 rfl rfl)
theorem dX0_plays_19 : decode cX0_plays 19 = .ok (.aload_n 0, 1) := dk_42 (dk_at dksX0_plays_0 19 rfl rfl)
theorem dX0_plays_20 : decode cX0_plays 20 = .ok (.getfield 69, 3) := dk_180 0 69 (dk_at dksX0_plays_0 20 rfl rfl)
theorem dX0_plays_23 : decode cX0_plays 23 = .ok (.iload_n 1, 1) := dk_27 (dk_at dksX0_plays_0 23 rfl rfl)
theorem dX0_plays_24 : decode cX0_plays 24 = .ok (.aaload, 1) := dk_50 (dk_at dksX0_plays_1 0 rfl rfl)
theorem dX0_plays_25 : decode cX0_plays 25 = .ok (.invokevirtual 276, 3) := dk_182 1 20 (dk_at dksX0_plays_1 1 rfl rfl)
theorem dX0_plays_28 : decode cX0_plays 28 = .ok (.isub, 1) := dk_100 (dk_at dksX0_plays_1 4 rfl rfl)
theorem dX0_plays_29 : decode cX0_plays 29 = .ok (.ireturn, 1) := dk_172 (dk_at dksX0_plays_1 5 rfl rfl)
theorem dX0_plays_30 : decode cX0_plays 30 = .ok (.iconst 0, 1) := dk_3 (dk_at dksX0_plays_1 6 rfl rfl)
theorem dX0_plays_31 : decode cX0_plays 31 = .ok (.istore_n 3, 1) := dk_62 (dk_at dksX0_plays_1 7 rfl rfl)
theorem dX0_plays_32 : decode cX0_plays 32 = .ok (.iconst (-1), 1) := dk_2 (dk_at dksX0_plays_1 8 rfl rfl)
theorem dX0_plays_33 : decode cX0_plays 33 = .ok (.istore 4, 2) := dk_54 4 (dk_at dksX0_plays_1 9 rfl rfl)
theorem dX0_plays_35 : decode cX0_plays 35 = .ok (.iconst 0, 1) := dk_3 (dk_at dksX0_plays_1 11 rfl rfl)
theorem dX0_plays_36 : decode cX0_plays 36 = .ok (.istore 5, 2) := dk_54 5 (dk_at dksX0_plays_1 12 rfl rfl)
theorem dX0_plays_38 : decode cX0_plays 38 = .ok (.iload 5, 2) := dk_21 5 (dk_at dksX0_plays_1 14 rfl rfl)
theorem dX0_plays_40 : decode cX0_plays 40 = .ok (.bipush 8, 2) := dk_16 8 (dk_at dksX0_plays_1 16 rfl rfl)
theorem dX0_plays_42 : decode cX0_plays 42 = .ok (.if_icmp .gt 209, 3) := dk_163 0 209 (dk_at dksX0_plays_1 18 rfl rfl)
theorem dX0_plays_45 : decode cX0_plays 45 = .ok (.aload_n 0, 1) := dk_42 (dk_at dksX0_plays_1 21 rfl rfl)
theorem dX0_plays_46 : decode cX0_plays 46 = .ok (.getfield 69, 3) := dk_180 0 69 (dk_at dksX0_plays_2 0 rfl rfl)
theorem dX0_plays_49 : decode cX0_plays 49 = .ok (.iload_n 1, 1) := dk_27 (dk_at dksX0_plays_2 3 rfl rfl)
theorem dX0_plays_50 : decode cX0_plays 50 = .ok (.iconst 1, 1) := dk_4 (dk_at dksX0_plays_2 4 rfl rfl)
theorem dX0_plays_51 : decode cX0_plays 51 = .ok (.iadd, 1) := dk_96 (dk_at dksX0_plays_2 5 rfl rfl)
theorem dX0_plays_52 : decode cX0_plays 52 = .ok (.aaload, 1) := dk_50 (dk_at dksX0_plays_2 6 rfl rfl)
theorem dX0_plays_53 : decode cX0_plays 53 = .ok (.aload_n 0, 1) := dk_42 (dk_at dksX0_plays_2 7 rfl rfl)
theorem dX0_plays_54 : decode cX0_plays 54 = .ok (.getfield 69, 3) := dk_180 0 69 (dk_at dksX0_plays_2 8 rfl rfl)
theorem dX0_plays_57 : decode cX0_plays 57 = .ok (.iload_n 1, 1) := dk_27 (dk_at dksX0_plays_2 11 rfl rfl)
theorem dX0_plays_58 : decode cX0_plays 58 = .ok (.aaload, 1) := dk_50 (dk_at dksX0_plays_2 12 rfl rfl)
theorem dX0_plays_59 : decode cX0_plays 59 = .ok (.invokevirtual 438, 3) := dk_182 1 182 (dk_at dksX0_plays_2 13 rfl rfl)
theorem dX0_plays_62 : decode cX0_plays 62 = .ok (.pop, 1) := dk_87 (dk_at dksX0_plays_2 16 rfl rfl)
theorem dX0_plays_63 : decode cX0_plays 63 = .ok (.aload_n 0, 1) := dk_42 (dk_at dksX0_plays_2 17 rfl rfl)
theorem dX0_plays_64 : decode cX0_plays 64 = .ok (.getfield 73, 3) := dk_180 0 73 (dk_at dksX0_plays_2 18 rfl rfl)
theorem dX0_plays_67 : decode cX0_plays 67 = .ok (.iload_n 1, 1) := dk_27 (dk_at dksX0_plays_2 21 rfl rfl)
theorem dX0_plays_68 : decode cX0_plays 68 = .ok (.iconst 1, 1) := dk_4 (dk_at dksX0_plays_2 22 rfl rfl)
theorem dX0_plays_69 : decode cX0_plays 69 = .ok (.iadd, 1) := dk_96 (dk_at dksX0_plays_2 23 rfl rfl)
theorem dX0_plays_70 : decode cX0_plays 70 = .ok (.aaload, 1) := dk_50 (dk_at dksX0_plays_3 0 rfl rfl)
theorem dX0_plays_71 : decode cX0_plays 71 = .ok (.aload_n 0, 1) := dk_42 (dk_at dksX0_plays_3 1 rfl rfl)
theorem dX0_plays_72 : decode cX0_plays 72 = .ok (.getfield 73, 3) := dk_180 0 73 (dk_at dksX0_plays_3 2 rfl rfl)
theorem dX0_plays_75 : decode cX0_plays 75 = .ok (.iload_n 1, 1) := dk_27 (dk_at dksX0_plays_3 5 rfl rfl)
theorem dX0_plays_76 : decode cX0_plays 76 = .ok (.aaload, 1) := dk_50 (dk_at dksX0_plays_3 6 rfl rfl)
theorem dX0_plays_77 : decode cX0_plays 77 = .ok (.invokevirtual 438, 3) := dk_182 1 182 (dk_at dksX0_plays_3 7 rfl rfl)
theorem dX0_plays_80 : decode cX0_plays 80 = .ok (.pop, 1) := dk_87 (dk_at dksX0_plays_3 10 rfl rfl)
theorem dX0_plays_81 : decode cX0_plays 81 = .ok (.iload_n 1, 1) := dk_27 (dk_at dksX0_plays_3 11 rfl rfl)
theorem dX0_plays_82 : decode cX0_plays 82 = .ok (.iconst 2, 1) := dk_5 (dk_at dksX0_plays_3 12 rfl rfl)
theorem dX0_plays_83 : decode cX0_plays 83 = .ok (.irem, 1) := dk_112 (dk_at dksX0_plays_3 13 rfl rfl)
theorem dX0_plays_84 : decode cX0_plays 84 = .ok (.ifCond .ne 14, 3) := dk_154 0 14 (dk_at dksX0_plays_3 14 rfl rfl)
theorem dX0_plays_87 : decode cX0_plays 87 = .ok (.aload_n 0, 1) := dk_42 (dk_at dksX0_plays_3 17 rfl rfl)
theorem dX0_plays_88 : decode cX0_plays 88 = .ok (.getfield 69, 3) := dk_180 0 69 (dk_at dksX0_plays_3 18 rfl rfl)
theorem dX0_plays_91 : decode cX0_plays 91 = .ok (.iload_n 1, 1) := dk_27 (dk_at dksX0_plays_3 21 rfl rfl)
theorem dX0_plays_92 : decode cX0_plays 92 = .ok (.iconst 1, 1) := dk_4 (dk_at dksX0_plays_3 22 rfl rfl)
theorem dX0_plays_93 : decode cX0_plays 93 = .ok (.iadd, 1) := dk_96 (dk_at dksX0_plays_3 23 rfl rfl)
theorem dX0_plays_94 : decode cX0_plays 94 = .ok (.aaload, 1) := dk_50 (dk_at dksX0_plays_4 0 rfl rfl)
theorem dX0_plays_95 : decode cX0_plays 95 = .ok (.goto 11, 3) := dk_167 0 11 (dk_at dksX0_plays_4 1 rfl rfl)
theorem dX0_plays_98 : decode cX0_plays 98 = .ok (.aload_n 0, 1) := dk_42 (dk_at dksX0_plays_4 4 rfl rfl)
theorem dX0_plays_99 : decode cX0_plays 99 = .ok (.getfield 73, 3) := dk_180 0 73 (dk_at dksX0_plays_4 5 rfl rfl)
theorem dX0_plays_102 : decode cX0_plays 102 = .ok (.iload_n 1, 1) := dk_27 (dk_at dksX0_plays_4 8 rfl rfl)
theorem dX0_plays_103 : decode cX0_plays 103 = .ok (.iconst 1, 1) := dk_4 (dk_at dksX0_plays_4 9 rfl rfl)
theorem dX0_plays_104 : decode cX0_plays 104 = .ok (.iadd, 1) := dk_96 (dk_at dksX0_plays_4 10 rfl rfl)
theorem dX0_plays_105 : decode cX0_plays 105 = .ok (.aaload, 1) := dk_50 (dk_at dksX0_plays_4 11 rfl rfl)
theorem dX0_plays_106 : decode cX0_plays 106 = .ok (.astore 6, 2) := dk_58 6 (dk_at dksX0_plays_4 12 rfl rfl)
theorem dX0_plays_108 : decode cX0_plays 108 = .ok (.iload_n 1, 1) := dk_27 (dk_at dksX0_plays_4 14 rfl rfl)
theorem dX0_plays_109 : decode cX0_plays 109 = .ok (.iconst 2, 1) := dk_5 (dk_at dksX0_plays_4 15 rfl rfl)
theorem dX0_plays_110 : decode cX0_plays 110 = .ok (.irem, 1) := dk_112 (dk_at dksX0_plays_4 16 rfl rfl)
theorem dX0_plays_111 : decode cX0_plays 111 = .ok (.ifCond .ne 14, 3) := dk_154 0 14 (dk_at dksX0_plays_4 17 rfl rfl)
theorem dX0_plays_114 : decode cX0_plays 114 = .ok (.aload_n 0, 1) := dk_42 (dk_at dksX0_plays_4 20 rfl rfl)
theorem dX0_plays_115 : decode cX0_plays 115 = .ok (.getfield 73, 3) := dk_180 0 73 (dk_at dksX0_plays_4 21 rfl rfl)
theorem dX0_plays_118 : decode cX0_plays 118 = .ok (.iload_n 1, 1) := dk_27 (dk_at dksX0_plays_5 0 rfl rfl)
theorem dX0_plays_119 : decode cX0_plays 119 = .ok (.iconst 1, 1) := dk_4 (dk_at dksX0_plays_5 1 rfl rfl)
theorem dX0_plays_120 : decode cX0_plays 120 = .ok (.iadd, 1) := dk_96 (dk_at dksX0_plays_5 2 rfl rfl)
theorem dX0_plays_121 : decode cX0_plays 121 = .ok (.aaload, 1) := dk_50 (dk_at dksX0_plays_5 3 rfl rfl)
theorem dX0_plays_122 : decode cX0_plays 122 = .ok (.goto 11, 3) := dk_167 0 11 (dk_at dksX0_plays_5 4 rfl rfl)
theorem dX0_plays_125 : decode cX0_plays 125 = .ok (.aload_n 0, 1) := dk_42 (dk_at dksX0_plays_5 7 rfl rfl)
theorem dX0_plays_126 : decode cX0_plays 126 = .ok (.getfield 69, 3) := dk_180 0 69 (dk_at dksX0_plays_5 8 rfl rfl)
theorem dX0_plays_129 : decode cX0_plays 129 = .ok (.iload_n 1, 1) := dk_27 (dk_at dksX0_plays_5 11 rfl rfl)
theorem dX0_plays_130 : decode cX0_plays 130 = .ok (.iconst 1, 1) := dk_4 (dk_at dksX0_plays_5 12 rfl rfl)
theorem dX0_plays_131 : decode cX0_plays 131 = .ok (.iadd, 1) := dk_96 (dk_at dksX0_plays_5 13 rfl rfl)
theorem dX0_plays_132 : decode cX0_plays 132 = .ok (.aaload, 1) := dk_50 (dk_at dksX0_plays_5 14 rfl rfl)
theorem dX0_plays_133 : decode cX0_plays 133 = .ok (.astore 7, 2) := dk_58 7 (dk_at dksX0_plays_5 15 rfl rfl)
theorem dX0_plays_135 : decode cX0_plays 135 = .ok (.iload 5, 2) := dk_21 5 (dk_at dksX0_plays_5 17 rfl rfl)
theorem dX0_plays_137 : decode cX0_plays 137 = .ok (.bipush 8, 2) := dk_16 8 (dk_at dksX0_plays_5 19 rfl rfl)
theorem dX0_plays_139 : decode cX0_plays 139 = .ok (.if_icmp .ge 35, 3) := dk_162 0 35 (dk_at dksX0_plays_5 21 rfl rfl)
theorem dX0_plays_142 : decode cX0_plays 142 = .ok (.aload_n 0, 1) := dk_42 (dk_at dksX0_plays_6 0 rfl rfl)
theorem dX0_plays_143 : decode cX0_plays 143 = .ok (.getfield 30, 3) := dk_180 0 30 (dk_at dksX0_plays_6 1 rfl rfl)
theorem dX0_plays_146 : decode cX0_plays 146 = .ok (.aload 6, 2) := dk_25 6 (dk_at dksX0_plays_6 4 rfl rfl)
theorem dX0_plays_148 : decode cX0_plays 148 = .ok (.iload 5, 2) := dk_21 5 (dk_at dksX0_plays_6 6 rfl rfl)
theorem dX0_plays_150 : decode cX0_plays 150 = .ok (.aload 7, 2) := dk_25 7 (dk_at dksX0_plays_6 8 rfl rfl)
theorem dX0_plays_152 : decode cX0_plays 152 = .ok (.invokevirtual 442, 3) := dk_182 1 186 (dk_at dksX0_plays_6 10 rfl rfl)
theorem dX0_plays_155 : decode cX0_plays 155 = .ok (.ifCond .ne 6, 3) := dk_154 0 6 (dk_at dksX0_plays_6 13 rfl rfl)
theorem dX0_plays_158 : decode cX0_plays 158 = .ok (.goto 87, 3) := dk_167 0 87 (dk_at dksX0_plays_6 16 rfl rfl)
theorem dX0_plays_161 : decode cX0_plays 161 = .ok (.aload_n 0, 1) := dk_42 (dk_at dksX0_plays_6 19 rfl rfl)
theorem dX0_plays_162 : decode cX0_plays 162 = .ok (.getfield 30, 3) := dk_180 0 30 (dk_at dksX0_plays_6 20 rfl rfl)
theorem dX0_plays_165 : decode cX0_plays 165 = .ok (.aload 6, 2) := dk_25 6 (dk_at dksX0_plays_7 0 rfl rfl)
theorem dX0_plays_167 : decode cX0_plays 167 = .ok (.iload 5, 2) := dk_21 5 (dk_at dksX0_plays_7 2 rfl rfl)
theorem dX0_plays_169 : decode cX0_plays 169 = .ok (.aload 7, 2) := dk_25 7 (dk_at dksX0_plays_7 4 rfl rfl)
theorem dX0_plays_171 : decode cX0_plays 171 = .ok (.invokevirtual 448, 3) := dk_182 1 192 (dk_at dksX0_plays_7 6 rfl rfl)
theorem dX0_plays_174 : decode cX0_plays 174 = .ok (.aload 6, 2) := dk_25 6 (dk_at dksX0_plays_7 9 rfl rfl)
theorem dX0_plays_176 : decode cX0_plays 176 = .ok (.aload_n 0, 1) := dk_42 (dk_at dksX0_plays_7 11 rfl rfl)
theorem dX0_plays_177 : decode cX0_plays 177 = .ok (.getfield 38, 3) := dk_180 0 38 (dk_at dksX0_plays_7 12 rfl rfl)
theorem dX0_plays_180 : decode cX0_plays 180 = .ok (.getfield 245, 3) := dk_180 0 245 (dk_at dksX0_plays_7 15 rfl rfl)
theorem dX0_plays_183 : decode cX0_plays 183 = .ok (.invokevirtual 452, 3) := dk_182 1 196 (dk_at dksX0_plays_7 18 rfl rfl)
theorem dX0_plays_186 : decode cX0_plays 186 = .ok (.aload 7, 2) := dk_25 7 (dk_at dksX0_plays_7 21 rfl rfl)
theorem dX0_plays_188 : decode cX0_plays 188 = .ok (.aload_n 0, 1) := dk_42 (dk_at dksX0_plays_7 23 rfl rfl)
theorem dX0_plays_189 : decode cX0_plays 189 = .ok (.getfield 38, 3) := dk_180 0 38 (dk_at dksX0_plays_8 0 rfl rfl)
theorem dX0_plays_192 : decode cX0_plays 192 = .ok (.getfield 245, 3) := dk_180 0 245 (dk_at dksX0_plays_8 3 rfl rfl)
theorem dX0_plays_195 : decode cX0_plays 195 = .ok (.invokevirtual 452, 3) := dk_182 1 196 (dk_at dksX0_plays_8 6 rfl rfl)
theorem dX0_plays_198 : decode cX0_plays 198 = .ok (.aload_n 0, 1) := dk_42 (dk_at dksX0_plays_8 9 rfl rfl)
theorem dX0_plays_199 : decode cX0_plays 199 = .ok (.iload_n 1, 1) := dk_27 (dk_at dksX0_plays_8 10 rfl rfl)
theorem dX0_plays_200 : decode cX0_plays 200 = .ok (.iconst 1, 1) := dk_4 (dk_at dksX0_plays_8 11 rfl rfl)
theorem dX0_plays_201 : decode cX0_plays 201 = .ok (.iadd, 1) := dk_96 (dk_at dksX0_plays_8 12 rfl rfl)
theorem dX0_plays_202 : decode cX0_plays 202 = .ok (.iload_n 2, 1) := dk_28 (dk_at dksX0_plays_8 13 rfl rfl)
theorem dX0_plays_203 : decode cX0_plays 203 = .ok (.invokevirtual 455, 3) := dk_182 1 199 (dk_at dksX0_plays_8 14 rfl rfl)
theorem dX0_plays_206 : decode cX0_plays 206 = .ok (.istore 8, 2) := dk_54 8 (dk_at dksX0_plays_8 17 rfl rfl)
theorem dX0_plays_208 : decode cX0_plays 208 = .ok (.iload 4, 2) := dk_21 4 (dk_at dksX0_plays_8 19 rfl rfl)
theorem dX0_plays_210 : decode cX0_plays 210 = .ok (.iconst (-1), 1) := dk_2 (dk_at dksX0_plays_8 21 rfl rfl)
theorem dX0_plays_211 : decode cX0_plays 211 = .ok (.if_icmp .eq 27, 3) := dk_159 0 27 (dk_at dksX0_plays_9 0 rfl rfl)
theorem dX0_plays_214 : decode cX0_plays 214 = .ok (.iload_n 1, 1) := dk_27 (dk_at dksX0_plays_9 3 rfl rfl)
theorem dX0_plays_215 : decode cX0_plays 215 = .ok (.iconst 2, 1) := dk_5 (dk_at dksX0_plays_9 4 rfl rfl)
theorem dX0_plays_216 : decode cX0_plays 216 = .ok (.irem, 1) := dk_112 (dk_at dksX0_plays_9 5 rfl rfl)
theorem dX0_plays_217 : decode cX0_plays 217 = .ok (.ifCond .ne 12, 3) := dk_154 0 12 (dk_at dksX0_plays_9 6 rfl rfl)
theorem dX0_plays_220 : decode cX0_plays 220 = .ok (.iload 8, 2) := dk_21 8 (dk_at dksX0_plays_9 9 rfl rfl)
theorem dX0_plays_222 : decode cX0_plays 222 = .ok (.iload_n 3, 1) := dk_29 (dk_at dksX0_plays_9 11 rfl rfl)
theorem dX0_plays_223 : decode cX0_plays 223 = .ok (.if_icmp .gt 15, 3) := dk_163 0 15 (dk_at dksX0_plays_9 12 rfl rfl)
theorem dX0_plays_226 : decode cX0_plays 226 = .ok (.goto 19, 3) := dk_167 0 19 (dk_at dksX0_plays_9 15 rfl rfl)
theorem dX0_plays_229 : decode cX0_plays 229 = .ok (.iload 8, 2) := dk_21 8 (dk_at dksX0_plays_9 18 rfl rfl)
theorem dX0_plays_231 : decode cX0_plays 231 = .ok (.iload_n 3, 1) := dk_29 (dk_at dksX0_plays_9 20 rfl rfl)
theorem dX0_plays_232 : decode cX0_plays 232 = .ok (.if_icmp .lt 6, 3) := dk_161 0 6 (dk_at dksX0_plays_9 21 rfl rfl)
theorem dX0_plays_235 : decode cX0_plays 235 = .ok (.goto 10, 3) := dk_167 0 10 (dk_at dksX0_plays_10 0 rfl rfl)
theorem dX0_plays_238 : decode cX0_plays 238 = .ok (.iload 8, 2) := dk_21 8 (dk_at dksX0_plays_10 3 rfl rfl)
theorem dX0_plays_240 : decode cX0_plays 240 = .ok (.istore_n 3, 1) := dk_62 (dk_at dksX0_plays_10 5 rfl rfl)
theorem dX0_plays_241 : decode cX0_plays 241 = .ok (.iload 5, 2) := dk_21 5 (dk_at dksX0_plays_10 6 rfl rfl)
theorem dX0_plays_243 : decode cX0_plays 243 = .ok (.istore 4, 2) := dk_54 4 (dk_at dksX0_plays_10 8 rfl rfl)
theorem dX0_plays_245 : decode cX0_plays 245 = .ok (.iinc 5 1, 3) := dk_132 5 1 (dk_at dksX0_plays_10 10 rfl rfl)
theorem dX0_plays_248 : decode cX0_plays 248 = .ok (.goto (-210), 3) := dk_167 255 46 (dk_at dksX0_plays_10 13 rfl rfl)
theorem dX0_plays_251 : decode cX0_plays 251 = .ok (.aload_n 0, 1) := dk_42 (dk_at dksX0_plays_10 16 rfl rfl)
theorem dX0_plays_252 : decode cX0_plays 252 = .ok (.iload 4, 2) := dk_21 4 (dk_at dksX0_plays_10 17 rfl rfl)
theorem dX0_plays_254 : decode cX0_plays 254 = .ok (.putfield 435, 3) := dk_181 1 179 (dk_at dksX0_plays_10 19 rfl rfl)
theorem dX0_plays_257 : decode cX0_plays 257 = .ok (.iload_n 3, 1) := dk_29 (dk_at dksX0_plays_10 22 rfl rfl)
theorem dX0_plays_258 : decode cX0_plays 258 = .ok (.ireturn, 1) := dk_172 (dk_at dksX0_plays_10 23 rfl rfl)
abbrev cX0_moveOf : ByteArray := prog_1_method_88_code
def yX0_moveOf : MethodName := ⟨RX0, "moveOf", "(III)I"⟩
def dkwX0_moveOf_2 : List UInt8 := [42, 42, 180, 1, 179, 182, 0, 102, 172]
abbrev dktX0_moveOf_2 : List UInt8 := dkwX0_moveOf_2 ++ []
def dkwX0_moveOf_1 : List UInt8 := [28, 29, 182, 1, 208, 87, 42, 180, 1, 179, 16, 8, 160, 0, 12, 42, 16, 8, 182, 0, 98, 167, 0, 11]
abbrev dktX0_moveOf_1 : List UInt8 := dkwX0_moveOf_1 ++ dktX0_moveOf_2
def dkwX0_moveOf_0 : List UInt8 := [42, 27, 28, 29, 4, 182, 1, 204, 54, 4, 21, 4, 158, 0, 10, 42, 21, 4, 182, 0, 98, 172, 42, 27]
abbrev dktX0_moveOf_0 : List UInt8 := dkwX0_moveOf_0 ++ dktX0_moveOf_1
theorem dksX0_moveOf_0 : cX0_moveOf.data.toList.drop 0 = dktX0_moveOf_0 := by decide +kernel
theorem dksX0_moveOf_1 : cX0_moveOf.data.toList.drop 24 = dktX0_moveOf_1 := dk_seg dksX0_moveOf_0 24 rfl rfl
theorem dksX0_moveOf_2 : cX0_moveOf.data.toList.drop 48 = dktX0_moveOf_2 := dk_seg dksX0_moveOf_1 24 rfl rfl
theorem dX0_moveOf_0 : decode cX0_moveOf 0 = .ok (.aload_n 0, 1) := dk_42 (dk_at dksX0_moveOf_0 0 rfl rfl)
theorem dX0_moveOf_1 : decode cX0_moveOf 1 = .ok (.iload_n 1, 1) := dk_27 (dk_at dksX0_moveOf_0 1 rfl rfl)
theorem dX0_moveOf_2 : decode cX0_moveOf 2 = .ok (.iload_n 2, 1) := dk_28 (dk_at dksX0_moveOf_0 2 rfl rfl)
theorem dX0_moveOf_3 : decode cX0_moveOf 3 = .ok (.iload_n 3, 1) := dk_29 (dk_at dksX0_moveOf_0 3 rfl rfl)
theorem dX0_moveOf_4 : decode cX0_moveOf 4 = .ok (.iconst 1, 1) := dk_4 (dk_at dksX0_moveOf_0 4 rfl rfl)
theorem dX0_moveOf_5 : decode cX0_moveOf 5 = .ok (.invokevirtual 460, 3) := dk_182 1 204 (dk_at dksX0_moveOf_0 5 rfl rfl)
theorem dX0_moveOf_8 : decode cX0_moveOf 8 = .ok (.istore 4, 2) := dk_54 4 (dk_at dksX0_moveOf_0 8 rfl rfl)
theorem dX0_moveOf_10 : decode cX0_moveOf 10 = .ok (.iload 4, 2) := dk_21 4 (dk_at dksX0_moveOf_0 10 rfl rfl)
theorem dX0_moveOf_12 : decode cX0_moveOf 12 = .ok (.ifCond .le 10, 3) := dk_158 0 10 (dk_at dksX0_moveOf_0 12 rfl rfl)
theorem dX0_moveOf_15 : decode cX0_moveOf 15 = .ok (.aload_n 0, 1) := dk_42 (dk_at dksX0_moveOf_0 15 rfl rfl)
theorem dX0_moveOf_16 : decode cX0_moveOf 16 = .ok (.iload 4, 2) := dk_21 4 (dk_at dksX0_moveOf_0 16 rfl rfl)
theorem dX0_moveOf_18 : decode cX0_moveOf 18 = .ok (.invokevirtual 98, 3) := dk_182 0 98 (dk_at dksX0_moveOf_0 18 rfl rfl)
theorem dX0_moveOf_21 : decode cX0_moveOf 21 = .ok (.ireturn, 1) := dk_172 (dk_at dksX0_moveOf_0 21 rfl rfl)
theorem dX0_moveOf_22 : decode cX0_moveOf 22 = .ok (.aload_n 0, 1) := dk_42 (dk_at dksX0_moveOf_0 22 rfl rfl)
theorem dX0_moveOf_23 : decode cX0_moveOf 23 = .ok (.iload_n 1, 1) := dk_27 (dk_at dksX0_moveOf_0 23 rfl rfl)
theorem dX0_moveOf_24 : decode cX0_moveOf 24 = .ok (.iload_n 2, 1) := dk_28 (dk_at dksX0_moveOf_1 0 rfl rfl)
theorem dX0_moveOf_25 : decode cX0_moveOf 25 = .ok (.iload_n 3, 1) := dk_29 (dk_at dksX0_moveOf_1 1 rfl rfl)
theorem dX0_moveOf_26 : decode cX0_moveOf 26 = .ok (.invokevirtual 464, 3) := dk_182 1 208 (dk_at dksX0_moveOf_1 2 rfl rfl)
theorem dX0_moveOf_29 : decode cX0_moveOf 29 = .ok (.pop, 1) := dk_87 (dk_at dksX0_moveOf_1 5 rfl rfl)
theorem dX0_moveOf_30 : decode cX0_moveOf 30 = .ok (.aload_n 0, 1) := dk_42 (dk_at dksX0_moveOf_1 6 rfl rfl)
theorem dX0_moveOf_31 : decode cX0_moveOf 31 = .ok (.getfield 435, 3) := dk_180 1 179 (dk_at dksX0_moveOf_1 7 rfl rfl)
theorem dX0_moveOf_34 : decode cX0_moveOf 34 = .ok (.bipush 8, 2) := dk_16 8 (dk_at dksX0_moveOf_1 10 rfl rfl)
theorem dX0_moveOf_36 : decode cX0_moveOf 36 = .ok (.if_icmp .ne 12, 3) := dk_160 0 12 (dk_at dksX0_moveOf_1 12 rfl rfl)
theorem dX0_moveOf_39 : decode cX0_moveOf 39 = .ok (.aload_n 0, 1) := dk_42 (dk_at dksX0_moveOf_1 15 rfl rfl)
theorem dX0_moveOf_40 : decode cX0_moveOf 40 = .ok (.bipush 8, 2) := dk_16 8 (dk_at dksX0_moveOf_1 16 rfl rfl)
theorem dX0_moveOf_42 : decode cX0_moveOf 42 = .ok (.invokevirtual 98, 3) := dk_182 0 98 (dk_at dksX0_moveOf_1 18 rfl rfl)
theorem dX0_moveOf_45 : decode cX0_moveOf 45 = .ok (.goto 11, 3) := dk_167 0 11 (dk_at dksX0_moveOf_1 21 rfl rfl)
theorem dX0_moveOf_48 : decode cX0_moveOf 48 = .ok (.aload_n 0, 1) := dk_42 (dk_at dksX0_moveOf_2 0 rfl rfl)
theorem dX0_moveOf_49 : decode cX0_moveOf 49 = .ok (.aload_n 0, 1) := dk_42 (dk_at dksX0_moveOf_2 1 rfl rfl)
theorem dX0_moveOf_50 : decode cX0_moveOf 50 = .ok (.getfield 435, 3) := dk_180 1 179 (dk_at dksX0_moveOf_2 2 rfl rfl)
theorem dX0_moveOf_53 : decode cX0_moveOf 53 = .ok (.invokevirtual 102, 3) := dk_182 0 102 (dk_at dksX0_moveOf_2 5 rfl rfl)
theorem dX0_moveOf_56 : decode cX0_moveOf 56 = .ok (.ireturn, 1) := dk_172 (dk_at dksX0_moveOf_2 8 rfl rfl)
abbrev cX0_safe : ByteArray := prog_1_method_90_code
def yX0_safe : MethodName := ⟨RX0, "safe", "(II)Z"⟩
def dkwX0_safe_3 : List UInt8 := [172]
abbrev dktX0_safe_3 : List UInt8 := dkwX0_safe_3 ++ []
def dkwX0_safe_2 : List UInt8 := [42, 16, 16, 42, 180, 0, 38, 180, 0, 224, 100, 29, 184, 1, 211, 16, 16, 29, 184, 1, 211, 182, 1, 215]
abbrev dktX0_safe_2 : List UInt8 := dkwX0_safe_2 ++ dktX0_safe_3
def dkwX0_safe_1 : List UInt8 := [154, 0, 9, 42, 8, 182, 0, 105, 172, 28, 42, 180, 0, 38, 27, 4, 182, 1, 1, 184, 1, 70, 104, 62]
abbrev dktX0_safe_1 : List UInt8 := dkwX0_safe_1 ++ dktX0_safe_2
def dkwX0_safe_0 : List UInt8 := [42, 27, 182, 0, 242, 154, 0, 9, 42, 5, 182, 0, 105, 172, 28, 133, 9, 20, 1, 112, 184, 0, 162]
abbrev dktX0_safe_0 : List UInt8 := dkwX0_safe_0 ++ dktX0_safe_1
theorem dksX0_safe_0 : cX0_safe.data.toList.drop 0 = dktX0_safe_0 := by decide +kernel
theorem dksX0_safe_1 : cX0_safe.data.toList.drop 23 = dktX0_safe_1 := dk_seg dksX0_safe_0 23 rfl rfl
theorem dksX0_safe_2 : cX0_safe.data.toList.drop 47 = dktX0_safe_2 := dk_seg dksX0_safe_1 24 rfl rfl
theorem dksX0_safe_3 : cX0_safe.data.toList.drop 71 = dktX0_safe_3 := dk_seg dksX0_safe_2 24 rfl rfl
theorem dX0_safe_0 : decode cX0_safe 0 = .ok (.aload_n 0, 1) := dk_42 (dk_at dksX0_safe_0 0 rfl rfl)
theorem dX0_safe_1 : decode cX0_safe 1 = .ok (.iload_n 1, 1) := dk_27 (dk_at dksX0_safe_0 1 rfl rfl)
theorem dX0_safe_2 : decode cX0_safe 2 = .ok (.invokevirtual 242, 3) := dk_182 0 242 (dk_at dksX0_safe_0 2 rfl rfl)
theorem dX0_safe_5 : decode cX0_safe 5 = .ok (.ifCond .ne 9, 3) := dk_154 0 9 (dk_at dksX0_safe_0 5 rfl rfl)
theorem dX0_safe_8 : decode cX0_safe 8 = .ok (.aload_n 0, 1) := dk_42 (dk_at dksX0_safe_0 8 rfl rfl)
theorem dX0_safe_9 : decode cX0_safe 9 = .ok (.iconst 2, 1) := dk_5 (dk_at dksX0_safe_0 9 rfl rfl)
theorem dX0_safe_10 : decode cX0_safe 10 = .ok (.invokevirtual 105, 3) := dk_182 0 105 (dk_at dksX0_safe_0 10 rfl rfl)
theorem dX0_safe_13 : decode cX0_safe 13 = .ok (.ireturn, 1) := dk_172 (dk_at dksX0_safe_0 13 rfl rfl)
theorem dX0_safe_14 : decode cX0_safe 14 = .ok (.iload_n 2, 1) := dk_28 (dk_at dksX0_safe_0 14 rfl rfl)
theorem dX0_safe_15 : decode cX0_safe 15 = .ok (.i2l, 1) := dk_133 (dk_at dksX0_safe_0 15 rfl rfl)
theorem dX0_safe_16 : decode cX0_safe 16 = .ok (.lconst 0, 1) := dk_9 (dk_at dksX0_safe_0 16 rfl rfl)
theorem dX0_safe_17 : decode cX0_safe 17 = .ok (.ldc2_w 368, 3) := dk_20 1 112 (dk_at dksX0_safe_0 17 rfl rfl)
theorem dX0_safe_20 : decode cX0_safe 20 = .ok (.invokestatic 162, 3) := dk_184 0 162 (dk_at dksX0_safe_0 20 rfl rfl)
theorem dX0_safe_23 : decode cX0_safe 23 = .ok (.ifCond .ne 9, 3) := dk_154 0 9 (dk_at dksX0_safe_1 0 rfl rfl)
theorem dX0_safe_26 : decode cX0_safe 26 = .ok (.aload_n 0, 1) := dk_42 (dk_at dksX0_safe_1 3 rfl rfl)
theorem dX0_safe_27 : decode cX0_safe 27 = .ok (.iconst 5, 1) := dk_8 (dk_at dksX0_safe_1 4 rfl rfl)
theorem dX0_safe_28 : decode cX0_safe 28 = .ok (.invokevirtual 105, 3) := dk_182 0 105 (dk_at dksX0_safe_1 5 rfl rfl)
theorem dX0_safe_31 : decode cX0_safe 31 = .ok (.ireturn, 1) := dk_172 (dk_at dksX0_safe_1 8 rfl rfl)
theorem dX0_safe_32 : decode cX0_safe 32 = .ok (.iload_n 2, 1) := dk_28 (dk_at dksX0_safe_1 9 rfl rfl)
theorem dX0_safe_33 : decode cX0_safe 33 = .ok (.aload_n 0, 1) := dk_42 (dk_at dksX0_safe_1 10 rfl rfl)
theorem dX0_safe_34 : decode cX0_safe 34 = .ok (.getfield 38, 3) := dk_180 0 38 (dk_at dksX0_safe_1 11 rfl rfl)
theorem dX0_safe_37 : decode cX0_safe 37 = .ok (.iload_n 1, 1) := dk_27 (dk_at dksX0_safe_1 14 rfl rfl)
theorem dX0_safe_38 : decode cX0_safe 38 = .ok (.iconst 1, 1) := dk_4 (dk_at dksX0_safe_1 15 rfl rfl)
theorem dX0_safe_39 : decode cX0_safe 39 = .ok (.invokevirtual 257, 3) := dk_182 1 1 (dk_at dksX0_safe_1 16 rfl rfl)
theorem dX0_safe_42 : decode cX0_safe 42 = .ok (.invokestatic 326, 3) := dk_184 1 70 (dk_at dksX0_safe_1 19 rfl rfl)
theorem dX0_safe_45 : decode cX0_safe 45 = .ok (.imul, 1) := dk_104 (dk_at dksX0_safe_1 22 rfl rfl)
theorem dX0_safe_46 : decode cX0_safe 46 = .ok (.istore_n 3, 1) := dk_62 (dk_at dksX0_safe_1 23 rfl rfl)
theorem dX0_safe_47 : decode cX0_safe 47 = .ok (.aload_n 0, 1) := dk_42 (dk_at dksX0_safe_2 0 rfl rfl)
theorem dX0_safe_48 : decode cX0_safe 48 = .ok (.bipush 16, 2) := dk_16 16 (dk_at dksX0_safe_2 1 rfl rfl)
theorem dX0_safe_50 : decode cX0_safe 50 = .ok (.aload_n 0, 1) := dk_42 (dk_at dksX0_safe_2 3 rfl rfl)
theorem dX0_safe_51 : decode cX0_safe 51 = .ok (.getfield 38, 3) := dk_180 0 38 (dk_at dksX0_safe_2 4 rfl rfl)
theorem dX0_safe_54 : decode cX0_safe 54 = .ok (.getfield 224, 3) := dk_180 0 224 (dk_at dksX0_safe_2 7 rfl rfl)
theorem dX0_safe_57 : decode cX0_safe 57 = .ok (.isub, 1) := dk_100 (dk_at dksX0_safe_2 10 rfl rfl)
theorem dX0_safe_58 : decode cX0_safe 58 = .ok (.iload_n 3, 1) := dk_29 (dk_at dksX0_safe_2 11 rfl rfl)
theorem dX0_safe_59 : decode cX0_safe 59 = .ok (.invokestatic 467, 3) := dk_184 1 211 (dk_at dksX0_safe_2 12 rfl rfl)
theorem dX0_safe_62 : decode cX0_safe 62 = .ok (.bipush 16, 2) := dk_16 16 (dk_at dksX0_safe_2 15 rfl rfl)
theorem dX0_safe_64 : decode cX0_safe 64 = .ok (.iload_n 3, 1) := dk_29 (dk_at dksX0_safe_2 17 rfl rfl)
theorem dX0_safe_65 : decode cX0_safe 65 = .ok (.invokestatic 467, 3) := dk_184 1 211 (dk_at dksX0_safe_2 18 rfl rfl)
theorem dX0_safe_68 : decode cX0_safe 68 = .ok (.invokevirtual 471, 3) := dk_182 1 215 (dk_at dksX0_safe_2 21 rfl rfl)
theorem dX0_safe_71 : decode cX0_safe 71 = .ok (.ireturn, 1) := dk_172 (dk_at dksX0_safe_3 0 rfl rfl)
abbrev cX0_powerOf : ByteArray := prog_1_method_89_code
def yX0_powerOf : MethodName := ⟨RX0, "powerOf", "(II)J"⟩
def dkwX0_powerOf_0 : List UInt8 := [10, 65, 3, 54, 4, 21, 4, 27, 162, 0, 14, 32, 26, 133, 105, 65, 132, 4, 1, 167, 255, 242, 32, 173]
abbrev dktX0_powerOf_0 : List UInt8 := dkwX0_powerOf_0 ++ []
theorem dksX0_powerOf_0 : cX0_powerOf.data.toList.drop 0 = dktX0_powerOf_0 := by decide +kernel
theorem dX0_powerOf_0 : decode cX0_powerOf 0 = .ok (.lconst 1, 1) := dk_10 (dk_at dksX0_powerOf_0 0 rfl rfl)
theorem dX0_powerOf_1 : decode cX0_powerOf 1 = .ok (.lstore_n 2, 1) := dk_65 (dk_at dksX0_powerOf_0 1 rfl rfl)
theorem dX0_powerOf_2 : decode cX0_powerOf 2 = .ok (.iconst 0, 1) := dk_3 (dk_at dksX0_powerOf_0 2 rfl rfl)
theorem dX0_powerOf_3 : decode cX0_powerOf 3 = .ok (.istore 4, 2) := dk_54 4 (dk_at dksX0_powerOf_0 3 rfl rfl)
theorem dX0_powerOf_5 : decode cX0_powerOf 5 = .ok (.iload 4, 2) := dk_21 4 (dk_at dksX0_powerOf_0 5 rfl rfl)
theorem dX0_powerOf_7 : decode cX0_powerOf 7 = .ok (.iload_n 1, 1) := dk_27 (dk_at dksX0_powerOf_0 7 rfl rfl)
theorem dX0_powerOf_8 : decode cX0_powerOf 8 = .ok (.if_icmp .ge 14, 3) := dk_162 0 14 (dk_at dksX0_powerOf_0 8 rfl rfl)
theorem dX0_powerOf_11 : decode cX0_powerOf 11 = .ok (.lload_n 2, 1) := dk_32 (dk_at dksX0_powerOf_0 11 rfl rfl)
theorem dX0_powerOf_12 : decode cX0_powerOf 12 = .ok (.iload_n 0, 1) := dk_26 (dk_at dksX0_powerOf_0 12 rfl rfl)
theorem dX0_powerOf_13 : decode cX0_powerOf 13 = .ok (.i2l, 1) := dk_133 (dk_at dksX0_powerOf_0 13 rfl rfl)
theorem dX0_powerOf_14 : decode cX0_powerOf 14 = .ok (.lmul, 1) := dk_105 (dk_at dksX0_powerOf_0 14 rfl rfl)
theorem dX0_powerOf_15 : decode cX0_powerOf 15 = .ok (.lstore_n 2, 1) := dk_65 (dk_at dksX0_powerOf_0 15 rfl rfl)
theorem dX0_powerOf_16 : decode cX0_powerOf 16 = .ok (.iinc 4 1, 3) := dk_132 4 1 (dk_at dksX0_powerOf_0 16 rfl rfl)
theorem dX0_powerOf_19 : decode cX0_powerOf 19 = .ok (.goto (-14), 3) := dk_167 255 242 (dk_at dksX0_powerOf_0 19 rfl rfl)
theorem dX0_powerOf_22 : decode cX0_powerOf 22 = .ok (.lload_n 2, 1) := dk_32 (dk_at dksX0_powerOf_0 22 rfl rfl)
theorem dX0_powerOf_23 : decode cX0_powerOf 23 = .ok (.lreturn, 1) := dk_173 (dk_at dksX0_powerOf_0 23 rfl rfl)
abbrev cX0_tell : ByteArray := prog_1_method_11_code
def yX0_tell : MethodName := ⟨RX0, "tell", "(JJ)Z"⟩
def dkwX0_tell_2 : List UInt8 := [3, 182, 0, 105, 172]
abbrev dktX0_tell_2 : List UInt8 := dkwX0_tell_2 ++ []
def dkwX0_tell_1 : List UInt8 := [22, 9, 55, 7, 167, 255, 234, 42, 31, 22, 5, 109, 181, 0, 95, 42, 33, 22, 5, 109, 181, 0, 49, 42]
abbrev dktX0_tell_1 : List UInt8 := dkwX0_tell_1 ++ dktX0_tell_2
def dkwX0_tell_0 : List UInt8 := [31, 55, 5, 33, 55, 7, 22, 7, 9, 148, 153, 0, 21, 22, 5, 22, 7, 113, 55, 9, 22, 7, 55, 5]
abbrev dktX0_tell_0 : List UInt8 := dkwX0_tell_0 ++ dktX0_tell_1
theorem dksX0_tell_0 : cX0_tell.data.toList.drop 0 = dktX0_tell_0 := by decide +kernel
theorem dksX0_tell_1 : cX0_tell.data.toList.drop 24 = dktX0_tell_1 := dk_seg dksX0_tell_0 24 rfl rfl
theorem dksX0_tell_2 : cX0_tell.data.toList.drop 48 = dktX0_tell_2 := dk_seg dksX0_tell_1 24 rfl rfl
theorem dX0_tell_0 : decode cX0_tell 0 = .ok (.lload_n 1, 1) := dk_31 (dk_at dksX0_tell_0 0 rfl rfl)
theorem dX0_tell_1 : decode cX0_tell 1 = .ok (.lstore 5, 2) := dk_55 5 (dk_at dksX0_tell_0 1 rfl rfl)
theorem dX0_tell_3 : decode cX0_tell 3 = .ok (.lload_n 3, 1) := dk_33 (dk_at dksX0_tell_0 3 rfl rfl)
theorem dX0_tell_4 : decode cX0_tell 4 = .ok (.lstore 7, 2) := dk_55 7 (dk_at dksX0_tell_0 4 rfl rfl)
theorem dX0_tell_6 : decode cX0_tell 6 = .ok (.lload 7, 2) := dk_22 7 (dk_at dksX0_tell_0 6 rfl rfl)
theorem dX0_tell_8 : decode cX0_tell 8 = .ok (.lconst 0, 1) := dk_9 (dk_at dksX0_tell_0 8 rfl rfl)
theorem dX0_tell_9 : decode cX0_tell 9 = .ok (.lcmp, 1) := dk_148 (dk_at dksX0_tell_0 9 rfl rfl)
theorem dX0_tell_10 : decode cX0_tell 10 = .ok (.ifCond .eq 21, 3) := dk_153 0 21 (dk_at dksX0_tell_0 10 rfl rfl)
theorem dX0_tell_13 : decode cX0_tell 13 = .ok (.lload 5, 2) := dk_22 5 (dk_at dksX0_tell_0 13 rfl rfl)
theorem dX0_tell_15 : decode cX0_tell 15 = .ok (.lload 7, 2) := dk_22 7 (dk_at dksX0_tell_0 15 rfl rfl)
theorem dX0_tell_17 : decode cX0_tell 17 = .ok (.lrem, 1) := dk_113 (dk_at dksX0_tell_0 17 rfl rfl)
theorem dX0_tell_18 : decode cX0_tell 18 = .ok (.lstore 9, 2) := dk_55 9 (dk_at dksX0_tell_0 18 rfl rfl)
theorem dX0_tell_20 : decode cX0_tell 20 = .ok (.lload 7, 2) := dk_22 7 (dk_at dksX0_tell_0 20 rfl rfl)
theorem dX0_tell_22 : decode cX0_tell 22 = .ok (.lstore 5, 2) := dk_55 5 (dk_at dksX0_tell_0 22 rfl rfl)
theorem dX0_tell_24 : decode cX0_tell 24 = .ok (.lload 9, 2) := dk_22 9 (dk_at dksX0_tell_1 0 rfl rfl)
theorem dX0_tell_26 : decode cX0_tell 26 = .ok (.lstore 7, 2) := dk_55 7 (dk_at dksX0_tell_1 2 rfl rfl)
theorem dX0_tell_28 : decode cX0_tell 28 = .ok (.goto (-22), 3) := dk_167 255 234 (dk_at dksX0_tell_1 4 rfl rfl)
theorem dX0_tell_31 : decode cX0_tell 31 = .ok (.aload_n 0, 1) := dk_42 (dk_at dksX0_tell_1 7 rfl rfl)
theorem dX0_tell_32 : decode cX0_tell 32 = .ok (.lload_n 1, 1) := dk_31 (dk_at dksX0_tell_1 8 rfl rfl)
theorem dX0_tell_33 : decode cX0_tell 33 = .ok (.lload 5, 2) := dk_22 5 (dk_at dksX0_tell_1 9 rfl rfl)
theorem dX0_tell_35 : decode cX0_tell 35 = .ok (.ldiv, 1) := dk_109 (dk_at dksX0_tell_1 11 rfl rfl)
theorem dX0_tell_36 : decode cX0_tell 36 = .ok (.putfield 95, 3) := dk_181 0 95 (dk_at dksX0_tell_1 12 rfl rfl)
theorem dX0_tell_39 : decode cX0_tell 39 = .ok (.aload_n 0, 1) := dk_42 (dk_at dksX0_tell_1 15 rfl rfl)
theorem dX0_tell_40 : decode cX0_tell 40 = .ok (.lload_n 3, 1) := dk_33 (dk_at dksX0_tell_1 16 rfl rfl)
theorem dX0_tell_41 : decode cX0_tell 41 = .ok (.lload 5, 2) := dk_22 5 (dk_at dksX0_tell_1 17 rfl rfl)
theorem dX0_tell_43 : decode cX0_tell 43 = .ok (.ldiv, 1) := dk_109 (dk_at dksX0_tell_1 19 rfl rfl)
theorem dX0_tell_44 : decode cX0_tell 44 = .ok (.putfield 49, 3) := dk_181 0 49 (dk_at dksX0_tell_1 20 rfl rfl)
theorem dX0_tell_47 : decode cX0_tell 47 = .ok (.aload_n 0, 1) := dk_42 (dk_at dksX0_tell_1 23 rfl rfl)
theorem dX0_tell_48 : decode cX0_tell 48 = .ok (.iconst 0, 1) := dk_3 (dk_at dksX0_tell_2 0 rfl rfl)
theorem dX0_tell_49 : decode cX0_tell 49 = .ok (.invokevirtual 105, 3) := dk_182 0 105 (dk_at dksX0_tell_2 1 rfl rfl)
theorem dX0_tell_52 : decode cX0_tell 52 = .ok (.ireturn, 1) := dk_172 (dk_at dksX0_tell_2 4 rfl rfl)
abbrev cX0_riskiest : ByteArray := prog_1_method_91_code
def yX0_riskiest : MethodName := ⟨RX0, "riskiest", "()I"⟩
def dkwX0_riskiest_4 : List UInt8 := [172]
abbrev dktX0_riskiest_4 : List UInt8 := dkwX0_riskiest_4 ++ []
def dkwX0_riskiest_3 : List UInt8 := [148, 155, 0, 6, 167, 0, 9, 22, 6, 65, 21, 4, 60, 132, 4, 1, 167, 255, 177, 42, 27, 182, 1, 53]
abbrev dktX0_riskiest_3 : List UInt8 := dkwX0_riskiest_3 ++ dktX0_riskiest_4
def dkwX0_riskiest_2 : List UInt8 := [184, 1, 211, 16, 16, 16, 6, 21, 5, 100, 184, 1, 211, 105, 55, 6, 27, 2, 159, 0, 13, 22, 6, 32]
abbrev dktX0_riskiest_2 : List UInt8 := dkwX0_riskiest_2 ++ dktX0_riskiest_3
def dkwX0_riskiest_1 : List UInt8 := [21, 4, 4, 182, 1, 1, 184, 1, 70, 54, 5, 16, 16, 42, 180, 0, 38, 180, 0, 224, 100, 21, 5]
abbrev dktX0_riskiest_1 : List UInt8 := dkwX0_riskiest_1 ++ dktX0_riskiest_2
def dkwX0_riskiest_0 : List UInt8 := [2, 60, 9, 65, 3, 54, 4, 21, 4, 42, 180, 0, 38, 180, 0, 147, 162, 0, 73, 42, 180, 0, 38]
abbrev dktX0_riskiest_0 : List UInt8 := dkwX0_riskiest_0 ++ dktX0_riskiest_1
theorem dksX0_riskiest_0 : cX0_riskiest.data.toList.drop 0 = dktX0_riskiest_0 := by decide +kernel
theorem dksX0_riskiest_1 : cX0_riskiest.data.toList.drop 23 = dktX0_riskiest_1 := dk_seg dksX0_riskiest_0 23 rfl rfl
theorem dksX0_riskiest_2 : cX0_riskiest.data.toList.drop 46 = dktX0_riskiest_2 := dk_seg dksX0_riskiest_1 23 rfl rfl
theorem dksX0_riskiest_3 : cX0_riskiest.data.toList.drop 70 = dktX0_riskiest_3 := dk_seg dksX0_riskiest_2 24 rfl rfl
theorem dksX0_riskiest_4 : cX0_riskiest.data.toList.drop 94 = dktX0_riskiest_4 := dk_seg dksX0_riskiest_3 24 rfl rfl
theorem dX0_riskiest_0 : decode cX0_riskiest 0 = .ok (.iconst (-1), 1) := dk_2 (dk_at dksX0_riskiest_0 0 rfl rfl)
theorem dX0_riskiest_1 : decode cX0_riskiest 1 = .ok (.istore_n 1, 1) := dk_60 (dk_at dksX0_riskiest_0 1 rfl rfl)
theorem dX0_riskiest_2 : decode cX0_riskiest 2 = .ok (.lconst 0, 1) := dk_9 (dk_at dksX0_riskiest_0 2 rfl rfl)
theorem dX0_riskiest_3 : decode cX0_riskiest 3 = .ok (.lstore_n 2, 1) := dk_65 (dk_at dksX0_riskiest_0 3 rfl rfl)
theorem dX0_riskiest_4 : decode cX0_riskiest 4 = .ok (.iconst 0, 1) := dk_3 (dk_at dksX0_riskiest_0 4 rfl rfl)
theorem dX0_riskiest_5 : decode cX0_riskiest 5 = .ok (.istore 4, 2) := dk_54 4 (dk_at dksX0_riskiest_0 5 rfl rfl)
theorem dX0_riskiest_7 : decode cX0_riskiest 7 = .ok (.iload 4, 2) := dk_21 4 (dk_at dksX0_riskiest_0 7 rfl rfl)
theorem dX0_riskiest_9 : decode cX0_riskiest 9 = .ok (.aload_n 0, 1) := dk_42 (dk_at dksX0_riskiest_0 9 rfl rfl)
theorem dX0_riskiest_10 : decode cX0_riskiest 10 = .ok (.getfield 38, 3) := dk_180 0 38 (dk_at dksX0_riskiest_0 10 rfl rfl)
theorem dX0_riskiest_13 : decode cX0_riskiest 13 = .ok (.getfield 147, 3) := dk_180 0 147 (dk_at dksX0_riskiest_0 13 rfl rfl)
theorem dX0_riskiest_16 : decode cX0_riskiest 16 = .ok (.if_icmp .ge 73, 3) := dk_162 0 73 (dk_at dksX0_riskiest_0 16 rfl rfl)
theorem dX0_riskiest_19 : decode cX0_riskiest 19 = .ok (.aload_n 0, 1) := dk_42 (dk_at dksX0_riskiest_0 19 rfl rfl)
theorem dX0_riskiest_20 : decode cX0_riskiest 20 = .ok (.getfield 38, 3) := dk_180 0 38 (dk_at dksX0_riskiest_0 20 rfl rfl)
theorem dX0_riskiest_23 : decode cX0_riskiest 23 = .ok (.iload 4, 2) := dk_21 4 (dk_at dksX0_riskiest_1 0 rfl rfl)
theorem dX0_riskiest_25 : decode cX0_riskiest 25 = .ok (.iconst 1, 1) := dk_4 (dk_at dksX0_riskiest_1 2 rfl rfl)
theorem dX0_riskiest_26 : decode cX0_riskiest 26 = .ok (.invokevirtual 257, 3) := dk_182 1 1 (dk_at dksX0_riskiest_1 3 rfl rfl)
theorem dX0_riskiest_29 : decode cX0_riskiest 29 = .ok (.invokestatic 326, 3) := dk_184 1 70 (dk_at dksX0_riskiest_1 6 rfl rfl)
theorem dX0_riskiest_32 : decode cX0_riskiest 32 = .ok (.istore 5, 2) := dk_54 5 (dk_at dksX0_riskiest_1 9 rfl rfl)
theorem dX0_riskiest_34 : decode cX0_riskiest 34 = .ok (.bipush 16, 2) := dk_16 16 (dk_at dksX0_riskiest_1 11 rfl rfl)
theorem dX0_riskiest_36 : decode cX0_riskiest 36 = .ok (.aload_n 0, 1) := dk_42 (dk_at dksX0_riskiest_1 13 rfl rfl)
theorem dX0_riskiest_37 : decode cX0_riskiest 37 = .ok (.getfield 38, 3) := dk_180 0 38 (dk_at dksX0_riskiest_1 14 rfl rfl)
theorem dX0_riskiest_40 : decode cX0_riskiest 40 = .ok (.getfield 224, 3) := dk_180 0 224 (dk_at dksX0_riskiest_1 17 rfl rfl)
theorem dX0_riskiest_43 : decode cX0_riskiest 43 = .ok (.isub, 1) := dk_100 (dk_at dksX0_riskiest_1 20 rfl rfl)
theorem dX0_riskiest_44 : decode cX0_riskiest 44 = .ok (.iload 5, 2) := dk_21 5 (dk_at dksX0_riskiest_1 21 rfl rfl)
theorem dX0_riskiest_46 : decode cX0_riskiest 46 = .ok (.invokestatic 467, 3) := dk_184 1 211 (dk_at dksX0_riskiest_2 0 rfl rfl)
theorem dX0_riskiest_49 : decode cX0_riskiest 49 = .ok (.bipush 16, 2) := dk_16 16 (dk_at dksX0_riskiest_2 3 rfl rfl)
theorem dX0_riskiest_51 : decode cX0_riskiest 51 = .ok (.bipush 6, 2) := dk_16 6 (dk_at dksX0_riskiest_2 5 rfl rfl)
theorem dX0_riskiest_53 : decode cX0_riskiest 53 = .ok (.iload 5, 2) := dk_21 5 (dk_at dksX0_riskiest_2 7 rfl rfl)
theorem dX0_riskiest_55 : decode cX0_riskiest 55 = .ok (.isub, 1) := dk_100 (dk_at dksX0_riskiest_2 9 rfl rfl)
theorem dX0_riskiest_56 : decode cX0_riskiest 56 = .ok (.invokestatic 467, 3) := dk_184 1 211 (dk_at dksX0_riskiest_2 10 rfl rfl)
theorem dX0_riskiest_59 : decode cX0_riskiest 59 = .ok (.lmul, 1) := dk_105 (dk_at dksX0_riskiest_2 13 rfl rfl)
theorem dX0_riskiest_60 : decode cX0_riskiest 60 = .ok (.lstore 6, 2) := dk_55 6 (dk_at dksX0_riskiest_2 14 rfl rfl)
theorem dX0_riskiest_62 : decode cX0_riskiest 62 = .ok (.iload_n 1, 1) := dk_27 (dk_at dksX0_riskiest_2 16 rfl rfl)
theorem dX0_riskiest_63 : decode cX0_riskiest 63 = .ok (.iconst (-1), 1) := dk_2 (dk_at dksX0_riskiest_2 17 rfl rfl)
theorem dX0_riskiest_64 : decode cX0_riskiest 64 = .ok (.if_icmp .eq 13, 3) := dk_159 0 13 (dk_at dksX0_riskiest_2 18 rfl rfl)
theorem dX0_riskiest_67 : decode cX0_riskiest 67 = .ok (.lload 6, 2) := dk_22 6 (dk_at dksX0_riskiest_2 21 rfl rfl)
theorem dX0_riskiest_69 : decode cX0_riskiest 69 = .ok (.lload_n 2, 1) := dk_32 (dk_at dksX0_riskiest_2 23 rfl rfl)
theorem dX0_riskiest_70 : decode cX0_riskiest 70 = .ok (.lcmp, 1) := dk_148 (dk_at dksX0_riskiest_3 0 rfl rfl)
theorem dX0_riskiest_71 : decode cX0_riskiest 71 = .ok (.ifCond .lt 6, 3) := dk_155 0 6 (dk_at dksX0_riskiest_3 1 rfl rfl)
theorem dX0_riskiest_74 : decode cX0_riskiest 74 = .ok (.goto 9, 3) := dk_167 0 9 (dk_at dksX0_riskiest_3 4 rfl rfl)
theorem dX0_riskiest_77 : decode cX0_riskiest 77 = .ok (.lload 6, 2) := dk_22 6 (dk_at dksX0_riskiest_3 7 rfl rfl)
theorem dX0_riskiest_79 : decode cX0_riskiest 79 = .ok (.lstore_n 2, 1) := dk_65 (dk_at dksX0_riskiest_3 9 rfl rfl)
theorem dX0_riskiest_80 : decode cX0_riskiest 80 = .ok (.iload 4, 2) := dk_21 4 (dk_at dksX0_riskiest_3 10 rfl rfl)
theorem dX0_riskiest_82 : decode cX0_riskiest 82 = .ok (.istore_n 1, 1) := dk_60 (dk_at dksX0_riskiest_3 12 rfl rfl)
theorem dX0_riskiest_83 : decode cX0_riskiest 83 = .ok (.iinc 4 1, 3) := dk_132 4 1 (dk_at dksX0_riskiest_3 13 rfl rfl)
theorem dX0_riskiest_86 : decode cX0_riskiest 86 = .ok (.goto (-79), 3) := dk_167 255 177 (dk_at dksX0_riskiest_3 16 rfl rfl)
theorem dX0_riskiest_89 : decode cX0_riskiest 89 = .ok (.aload_n 0, 1) := dk_42 (dk_at dksX0_riskiest_3 19 rfl rfl)
theorem dX0_riskiest_90 : decode cX0_riskiest 90 = .ok (.iload_n 1, 1) := dk_27 (dk_at dksX0_riskiest_3 20 rfl rfl)
theorem dX0_riskiest_91 : decode cX0_riskiest 91 = .ok (.invokevirtual 309, 3) := dk_182 1 53 (dk_at dksX0_riskiest_3 21 rfl rfl)
theorem dX0_riskiest_94 : decode cX0_riskiest 94 = .ok (.ireturn, 1) := dk_172 (dk_at dksX0_riskiest_4 0 rfl rfl)
abbrev cX0_live : ByteArray := prog_1_method_101_code
def yX0_live : MethodName := ⟨RX0, "live", "(I)I"⟩
def dkwX0_live_2 : List UInt8 := [3, 8, 184, 0, 139, 42, 4, 181, 2, 22, 42, 42, 180, 2, 7, 182, 0, 102, 172]
abbrev dktX0_live_2 : List UInt8 := dkwX0_live_2 ++ []
def dkwX0_live_1 : List UInt8 := [199, 0, 10, 42, 16, 8, 182, 0, 98, 172, 42, 27, 182, 2, 19, 42, 180, 0, 76, 3, 42, 180, 0, 79]
abbrev dktX0_live_1 : List UInt8 := dkwX0_live_1 ++ dktX0_live_2
def dkwX0_live_0 : List UInt8 := [27, 133, 9, 20, 1, 142, 184, 0, 162, 154, 0, 9, 42, 8, 182, 0, 98, 172, 42, 180, 0, 196]
abbrev dktX0_live_0 : List UInt8 := dkwX0_live_0 ++ dktX0_live_1
theorem dksX0_live_0 : cX0_live.data.toList.drop 0 = dktX0_live_0 := by decide +kernel
theorem dksX0_live_1 : cX0_live.data.toList.drop 22 = dktX0_live_1 := dk_seg dksX0_live_0 22 rfl rfl
theorem dksX0_live_2 : cX0_live.data.toList.drop 46 = dktX0_live_2 := dk_seg dksX0_live_1 24 rfl rfl
theorem dX0_live_0 : decode cX0_live 0 = .ok (.iload_n 1, 1) := dk_27 (dk_at dksX0_live_0 0 rfl rfl)
theorem dX0_live_1 : decode cX0_live 1 = .ok (.i2l, 1) := dk_133 (dk_at dksX0_live_0 1 rfl rfl)
theorem dX0_live_2 : decode cX0_live 2 = .ok (.lconst 0, 1) := dk_9 (dk_at dksX0_live_0 2 rfl rfl)
theorem dX0_live_3 : decode cX0_live 3 = .ok (.ldc2_w 398, 3) := dk_20 1 142 (dk_at dksX0_live_0 3 rfl rfl)
theorem dX0_live_6 : decode cX0_live 6 = .ok (.invokestatic 162, 3) := dk_184 0 162 (dk_at dksX0_live_0 6 rfl rfl)
theorem dX0_live_9 : decode cX0_live 9 = .ok (.ifCond .ne 9, 3) := dk_154 0 9 (dk_at dksX0_live_0 9 rfl rfl)
theorem dX0_live_12 : decode cX0_live 12 = .ok (.aload_n 0, 1) := dk_42 (dk_at dksX0_live_0 12 rfl rfl)
theorem dX0_live_13 : decode cX0_live 13 = .ok (.iconst 5, 1) := dk_8 (dk_at dksX0_live_0 13 rfl rfl)
theorem dX0_live_14 : decode cX0_live 14 = .ok (.invokevirtual 98, 3) := dk_182 0 98 (dk_at dksX0_live_0 14 rfl rfl)
theorem dX0_live_17 : decode cX0_live 17 = .ok (.ireturn, 1) := dk_172 (dk_at dksX0_live_0 17 rfl rfl)
theorem dX0_live_18 : decode cX0_live 18 = .ok (.aload_n 0, 1) := dk_42 (dk_at dksX0_live_0 18 rfl rfl)
theorem dX0_live_19 : decode cX0_live 19 = .ok (.getfield 196, 3) := dk_180 0 196 (dk_at dksX0_live_0 19 rfl rfl)
theorem dX0_live_22 : decode cX0_live 22 = .ok (.ifnonnull 10, 3) := dk_199 0 10 (dk_at dksX0_live_1 0 rfl rfl)
theorem dX0_live_25 : decode cX0_live 25 = .ok (.aload_n 0, 1) := dk_42 (dk_at dksX0_live_1 3 rfl rfl)
theorem dX0_live_26 : decode cX0_live 26 = .ok (.bipush 8, 2) := dk_16 8 (dk_at dksX0_live_1 4 rfl rfl)
theorem dX0_live_28 : decode cX0_live 28 = .ok (.invokevirtual 98, 3) := dk_182 0 98 (dk_at dksX0_live_1 6 rfl rfl)
theorem dX0_live_31 : decode cX0_live 31 = .ok (.ireturn, 1) := dk_172 (dk_at dksX0_live_1 9 rfl rfl)
theorem dX0_live_32 : decode cX0_live 32 = .ok (.aload_n 0, 1) := dk_42 (dk_at dksX0_live_1 10 rfl rfl)
theorem dX0_live_33 : decode cX0_live 33 = .ok (.iload_n 1, 1) := dk_27 (dk_at dksX0_live_1 11 rfl rfl)
theorem dX0_live_34 : decode cX0_live 34 = .ok (.invokevirtual 531, 3) := dk_182 2 19 (dk_at dksX0_live_1 12 rfl rfl)
theorem dX0_live_37 : decode cX0_live 37 = .ok (.aload_n 0, 1) := dk_42 (dk_at dksX0_live_1 15 rfl rfl)
theorem dX0_live_38 : decode cX0_live 38 = .ok (.getfield 76, 3) := dk_180 0 76 (dk_at dksX0_live_1 16 rfl rfl)
theorem dX0_live_41 : decode cX0_live 41 = .ok (.iconst 0, 1) := dk_3 (dk_at dksX0_live_1 19 rfl rfl)
theorem dX0_live_42 : decode cX0_live 42 = .ok (.aload_n 0, 1) := dk_42 (dk_at dksX0_live_1 20 rfl rfl)
theorem dX0_live_43 : decode cX0_live 43 = .ok (.getfield 79, 3) := dk_180 0 79 (dk_at dksX0_live_1 21 rfl rfl)
theorem dX0_live_46 : decode cX0_live 46 = .ok (.iconst 0, 1) := dk_3 (dk_at dksX0_live_2 0 rfl rfl)
theorem dX0_live_47 : decode cX0_live 47 = .ok (.iconst 5, 1) := dk_8 (dk_at dksX0_live_2 1 rfl rfl)
theorem dX0_live_48 : decode cX0_live 48 = .ok (.invokestatic 139, 3) := dk_184 0 139 (dk_at dksX0_live_2 2 rfl rfl)
theorem dX0_live_51 : decode cX0_live 51 = .ok (.aload_n 0, 1) := dk_42 (dk_at dksX0_live_2 5 rfl rfl)
theorem dX0_live_52 : decode cX0_live 52 = .ok (.iconst 1, 1) := dk_4 (dk_at dksX0_live_2 6 rfl rfl)
theorem dX0_live_53 : decode cX0_live 53 = .ok (.putfield 534, 3) := dk_181 2 22 (dk_at dksX0_live_2 7 rfl rfl)
theorem dX0_live_56 : decode cX0_live 56 = .ok (.aload_n 0, 1) := dk_42 (dk_at dksX0_live_2 10 rfl rfl)
theorem dX0_live_57 : decode cX0_live 57 = .ok (.aload_n 0, 1) := dk_42 (dk_at dksX0_live_2 11 rfl rfl)
theorem dX0_live_58 : decode cX0_live 58 = .ok (.getfield 519, 3) := dk_180 2 7 (dk_at dksX0_live_2 12 rfl rfl)
theorem dX0_live_61 : decode cX0_live 61 = .ok (.invokevirtual 102, 3) := dk_182 0 102 (dk_at dksX0_live_2 15 rfl rfl)
theorem dX0_live_64 : decode cX0_live 64 = .ok (.ireturn, 1) := dk_172 (dk_at dksX0_live_2 18 rfl rfl)
abbrev cX0_livesBy : ByteArray := prog_1_method_100_code
def yX0_livesBy : MethodName := ⟨RX0, "livesBy", "(I)V"⟩
def dkwX0_livesBy_5 : List UInt8 := [154, 0, 12, 45, 180, 2, 4, 4, 96, 167, 0, 6, 28, 4, 96, 182, 2, 16, 61, 167, 255, 151, 177]
abbrev dktX0_livesBy_5 : List UInt8 := dkwX0_livesBy_5 ++ []
def dkwX0_livesBy_4 : List UInt8 := [180, 0, 76, 3, 92, 46, 4, 96, 79, 42, 45, 180, 1, 229, 16, 17, 160, 0, 20, 42, 45, 182, 2, 13]
abbrev dktX0_livesBy_4 : List UInt8 := dkwX0_livesBy_4 ++ dktX0_livesBy_5
def dkwX0_livesBy_3 : List UInt8 := [96, 181, 2, 7, 45, 180, 1, 229, 16, 19, 160, 0, 4, 177, 42, 45, 182, 2, 10, 154, 0, 13, 42]
abbrev dktX0_livesBy_3 : List UInt8 := dkwX0_livesBy_3 ++ dktX0_livesBy_4
def dkwX0_livesBy_2 : List UInt8 := [160, 0, 11, 42, 180, 0, 76, 7, 4, 79, 177, 42, 180, 0, 196, 28, 50, 78, 42, 89, 180, 2, 7, 4]
abbrev dktX0_livesBy_2 : List UInt8 := dkwX0_livesBy_2 ++ dktX0_livesBy_3
def dkwX0_livesBy_1 : List UInt8 := [132, 2, 1, 167, 255, 241, 3, 61, 28, 42, 180, 0, 200, 162, 0, 103, 42, 180, 2, 7, 17, 1, 44]
abbrev dktX0_livesBy_1 : List UInt8 := dkwX0_livesBy_1 ++ dktX0_livesBy_2
def dkwX0_livesBy_0 : List UInt8 := [42, 27, 181, 1, 219, 42, 3, 181, 2, 7, 3, 61, 28, 8, 162, 0, 16, 42, 180, 0, 76, 28, 3, 79]
abbrev dktX0_livesBy_0 : List UInt8 := dkwX0_livesBy_0 ++ dktX0_livesBy_1
theorem dksX0_livesBy_0 : cX0_livesBy.data.toList.drop 0 = dktX0_livesBy_0 := by decide +kernel
theorem dksX0_livesBy_1 : cX0_livesBy.data.toList.drop 24 = dktX0_livesBy_1 := dk_seg dksX0_livesBy_0 24 rfl rfl
theorem dksX0_livesBy_2 : cX0_livesBy.data.toList.drop 47 = dktX0_livesBy_2 := dk_seg dksX0_livesBy_1 23 rfl rfl
theorem dksX0_livesBy_3 : cX0_livesBy.data.toList.drop 71 = dktX0_livesBy_3 := dk_seg dksX0_livesBy_2 24 rfl rfl
theorem dksX0_livesBy_4 : cX0_livesBy.data.toList.drop 94 = dktX0_livesBy_4 := dk_seg dksX0_livesBy_3 23 rfl rfl
theorem dksX0_livesBy_5 : cX0_livesBy.data.toList.drop 118 = dktX0_livesBy_5 := dk_seg dksX0_livesBy_4 24 rfl rfl
theorem dX0_livesBy_0 : decode cX0_livesBy 0 = .ok (.aload_n 0, 1) := dk_42 (dk_at dksX0_livesBy_0 0 rfl rfl)
theorem dX0_livesBy_1 : decode cX0_livesBy 1 = .ok (.iload_n 1, 1) := dk_27 (dk_at dksX0_livesBy_0 1 rfl rfl)
theorem dX0_livesBy_2 : decode cX0_livesBy 2 = .ok (.putfield 475, 3) := dk_181 1 219 (dk_at dksX0_livesBy_0 2 rfl rfl)
theorem dX0_livesBy_5 : decode cX0_livesBy 5 = .ok (.aload_n 0, 1) := dk_42 (dk_at dksX0_livesBy_0 5 rfl rfl)
theorem dX0_livesBy_6 : decode cX0_livesBy 6 = .ok (.iconst 0, 1) := dk_3 (dk_at dksX0_livesBy_0 6 rfl rfl)
theorem dX0_livesBy_7 : decode cX0_livesBy 7 = .ok (.putfield 519, 3) := dk_181 2 7 (dk_at dksX0_livesBy_0 7 rfl rfl)
theorem dX0_livesBy_10 : decode cX0_livesBy 10 = .ok (.iconst 0, 1) := dk_3 (dk_at dksX0_livesBy_0 10 rfl rfl)
theorem dX0_livesBy_11 : decode cX0_livesBy 11 = .ok (.istore_n 2, 1) := dk_61 (dk_at dksX0_livesBy_0 11 rfl rfl)
theorem dX0_livesBy_12 : decode cX0_livesBy 12 = .ok (.iload_n 2, 1) := dk_28 (dk_at dksX0_livesBy_0 12 rfl rfl)
theorem dX0_livesBy_13 : decode cX0_livesBy 13 = .ok (.iconst 5, 1) := dk_8 (dk_at dksX0_livesBy_0 13 rfl rfl)
theorem dX0_livesBy_14 : decode cX0_livesBy 14 = .ok (.if_icmp .ge 16, 3) := dk_162 0 16 (dk_at dksX0_livesBy_0 14 rfl rfl)
theorem dX0_livesBy_17 : decode cX0_livesBy 17 = .ok (.aload_n 0, 1) := dk_42 (dk_at dksX0_livesBy_0 17 rfl rfl)
theorem dX0_livesBy_18 : decode cX0_livesBy 18 = .ok (.getfield 76, 3) := dk_180 0 76 (dk_at dksX0_livesBy_0 18 rfl rfl)
theorem dX0_livesBy_21 : decode cX0_livesBy 21 = .ok (.iload_n 2, 1) := dk_28 (dk_at dksX0_livesBy_0 21 rfl rfl)
theorem dX0_livesBy_22 : decode cX0_livesBy 22 = .ok (.iconst 0, 1) := dk_3 (dk_at dksX0_livesBy_0 22 rfl rfl)
theorem dX0_livesBy_23 : decode cX0_livesBy 23 = .ok (.iastore, 1) := dk_79 (dk_at dksX0_livesBy_0 23 rfl rfl)
theorem dX0_livesBy_24 : decode cX0_livesBy 24 = .ok (.iinc 2 1, 3) := dk_132 2 1 (dk_at dksX0_livesBy_1 0 rfl rfl)
theorem dX0_livesBy_27 : decode cX0_livesBy 27 = .ok (.goto (-15), 3) := dk_167 255 241 (dk_at dksX0_livesBy_1 3 rfl rfl)
theorem dX0_livesBy_30 : decode cX0_livesBy 30 = .ok (.iconst 0, 1) := dk_3 (dk_at dksX0_livesBy_1 6 rfl rfl)
theorem dX0_livesBy_31 : decode cX0_livesBy 31 = .ok (.istore_n 2, 1) := dk_61 (dk_at dksX0_livesBy_1 7 rfl rfl)
theorem dX0_livesBy_32 : decode cX0_livesBy 32 = .ok (.iload_n 2, 1) := dk_28 (dk_at dksX0_livesBy_1 8 rfl rfl)
theorem dX0_livesBy_33 : decode cX0_livesBy 33 = .ok (.aload_n 0, 1) := dk_42 (dk_at dksX0_livesBy_1 9 rfl rfl)
theorem dX0_livesBy_34 : decode cX0_livesBy 34 = .ok (.getfield 200, 3) := dk_180 0 200 (dk_at dksX0_livesBy_1 10 rfl rfl)
theorem dX0_livesBy_37 : decode cX0_livesBy 37 = .ok (.if_icmp .ge 103, 3) := dk_162 0 103 (dk_at dksX0_livesBy_1 13 rfl rfl)
theorem dX0_livesBy_40 : decode cX0_livesBy 40 = .ok (.aload_n 0, 1) := dk_42 (dk_at dksX0_livesBy_1 16 rfl rfl)
theorem dX0_livesBy_41 : decode cX0_livesBy 41 = .ok (.getfield 519, 3) := dk_180 2 7 (dk_at dksX0_livesBy_1 17 rfl rfl)
theorem dX0_livesBy_44 : decode cX0_livesBy 44 = .ok (.sipush 300, 3) := dk_17 1 44 (dk_at dksX0_livesBy_1 20 rfl rfl)
theorem dX0_livesBy_47 : decode cX0_livesBy 47 = .ok (.if_icmp .ne 11, 3) := dk_160 0 11 (dk_at dksX0_livesBy_2 0 rfl rfl)
theorem dX0_livesBy_50 : decode cX0_livesBy 50 = .ok (.aload_n 0, 1) := dk_42 (dk_at dksX0_livesBy_2 3 rfl rfl)
theorem dX0_livesBy_51 : decode cX0_livesBy 51 = .ok (.getfield 76, 3) := dk_180 0 76 (dk_at dksX0_livesBy_2 4 rfl rfl)
theorem dX0_livesBy_54 : decode cX0_livesBy 54 = .ok (.iconst 4, 1) := dk_7 (dk_at dksX0_livesBy_2 7 rfl rfl)
theorem dX0_livesBy_55 : decode cX0_livesBy 55 = .ok (.iconst 1, 1) := dk_4 (dk_at dksX0_livesBy_2 8 rfl rfl)
theorem dX0_livesBy_56 : decode cX0_livesBy 56 = .ok (.iastore, 1) := dk_79 (dk_at dksX0_livesBy_2 9 rfl rfl)
theorem dX0_livesBy_57 : decode cX0_livesBy 57 = .ok (.return_, 1) := dk_177 (dk_at dksX0_livesBy_2 10 rfl rfl)
theorem dX0_livesBy_58 : decode cX0_livesBy 58 = .ok (.aload_n 0, 1) := dk_42 (dk_at dksX0_livesBy_2 11 rfl rfl)
theorem dX0_livesBy_59 : decode cX0_livesBy 59 = .ok (.getfield 196, 3) := dk_180 0 196 (dk_at dksX0_livesBy_2 12 rfl rfl)
theorem dX0_livesBy_62 : decode cX0_livesBy 62 = .ok (.iload_n 2, 1) := dk_28 (dk_at dksX0_livesBy_2 15 rfl rfl)
theorem dX0_livesBy_63 : decode cX0_livesBy 63 = .ok (.aaload, 1) := dk_50 (dk_at dksX0_livesBy_2 16 rfl rfl)
theorem dX0_livesBy_64 : decode cX0_livesBy 64 = .ok (.astore_n 3, 1) := dk_78 (dk_at dksX0_livesBy_2 17 rfl rfl)
theorem dX0_livesBy_65 : decode cX0_livesBy 65 = .ok (.aload_n 0, 1) := dk_42 (dk_at dksX0_livesBy_2 18 rfl rfl)
theorem dX0_livesBy_66 : decode cX0_livesBy 66 = .ok (.dup, 1) := dk_89 (dk_at dksX0_livesBy_2 19 rfl rfl)
theorem dX0_livesBy_67 : decode cX0_livesBy 67 = .ok (.getfield 519, 3) := dk_180 2 7 (dk_at dksX0_livesBy_2 20 rfl rfl)
theorem dX0_livesBy_70 : decode cX0_livesBy 70 = .ok (.iconst 1, 1) := dk_4 (dk_at dksX0_livesBy_2 23 rfl rfl)
theorem dX0_livesBy_71 : decode cX0_livesBy 71 = .ok (.iadd, 1) := dk_96 (dk_at dksX0_livesBy_3 0 rfl rfl)
theorem dX0_livesBy_72 : decode cX0_livesBy 72 = .ok (.putfield 519, 3) := dk_181 2 7 (dk_at dksX0_livesBy_3 1 rfl rfl)
theorem dX0_livesBy_75 : decode cX0_livesBy 75 = .ok (.aload_n 3, 1) := dk_45 (dk_at dksX0_livesBy_3 4 rfl rfl)
theorem dX0_livesBy_76 : decode cX0_livesBy 76 = .ok (.getfield 485, 3) := dk_180 1 229 (dk_at dksX0_livesBy_3 5 rfl rfl)
theorem dX0_livesBy_79 : decode cX0_livesBy 79 = .ok (.bipush 19, 2) := dk_16 19 (dk_at dksX0_livesBy_3 8 rfl rfl)
theorem dX0_livesBy_81 : decode cX0_livesBy 81 = .ok (.if_icmp .ne 4, 3) := dk_160 0 4 (dk_at dksX0_livesBy_3 10 rfl rfl)
theorem dX0_livesBy_84 : decode cX0_livesBy 84 = .ok (.return_, 1) := dk_177 (dk_at dksX0_livesBy_3 13 rfl rfl)
theorem dX0_livesBy_85 : decode cX0_livesBy 85 = .ok (.aload_n 0, 1) := dk_42 (dk_at dksX0_livesBy_3 14 rfl rfl)
theorem dX0_livesBy_86 : decode cX0_livesBy 86 = .ok (.aload_n 3, 1) := dk_45 (dk_at dksX0_livesBy_3 15 rfl rfl)
theorem dX0_livesBy_87 : decode cX0_livesBy 87 = .ok (.invokevirtual 522, 3) := dk_182 2 10 (dk_at dksX0_livesBy_3 16 rfl rfl)
theorem dX0_livesBy_90 : decode cX0_livesBy 90 = .ok (.ifCond .ne 13, 3) := dk_154 0 13 (dk_at dksX0_livesBy_3 19 rfl rfl)
theorem dX0_livesBy_93 : decode cX0_livesBy 93 = .ok (.aload_n 0, 1) := dk_42 (dk_at dksX0_livesBy_3 22 rfl rfl)
theorem dX0_livesBy_94 : decode cX0_livesBy 94 = .ok (.getfield 76, 3) := dk_180 0 76 (dk_at dksX0_livesBy_4 0 rfl rfl)
theorem dX0_livesBy_97 : decode cX0_livesBy 97 = .ok (.iconst 0, 1) := dk_3 (dk_at dksX0_livesBy_4 3 rfl rfl)
theorem dX0_livesBy_98 : decode cX0_livesBy 98 = .ok (.dup2, 1) := dk_92 (dk_at dksX0_livesBy_4 4 rfl rfl)
theorem dX0_livesBy_99 : decode cX0_livesBy 99 = .ok (.iaload, 1) := dk_46 (dk_at dksX0_livesBy_4 5 rfl rfl)
theorem dX0_livesBy_100 : decode cX0_livesBy 100 = .ok (.iconst 1, 1) := dk_4 (dk_at dksX0_livesBy_4 6 rfl rfl)
theorem dX0_livesBy_101 : decode cX0_livesBy 101 = .ok (.iadd, 1) := dk_96 (dk_at dksX0_livesBy_4 7 rfl rfl)
theorem dX0_livesBy_102 : decode cX0_livesBy 102 = .ok (.iastore, 1) := dk_79 (dk_at dksX0_livesBy_4 8 rfl rfl)
theorem dX0_livesBy_103 : decode cX0_livesBy 103 = .ok (.aload_n 0, 1) := dk_42 (dk_at dksX0_livesBy_4 9 rfl rfl)
theorem dX0_livesBy_104 : decode cX0_livesBy 104 = .ok (.aload_n 3, 1) := dk_45 (dk_at dksX0_livesBy_4 10 rfl rfl)
theorem dX0_livesBy_105 : decode cX0_livesBy 105 = .ok (.getfield 485, 3) := dk_180 1 229 (dk_at dksX0_livesBy_4 11 rfl rfl)
theorem dX0_livesBy_108 : decode cX0_livesBy 108 = .ok (.bipush 17, 2) := dk_16 17 (dk_at dksX0_livesBy_4 14 rfl rfl)
theorem dX0_livesBy_110 : decode cX0_livesBy 110 = .ok (.if_icmp .ne 20, 3) := dk_160 0 20 (dk_at dksX0_livesBy_4 16 rfl rfl)
theorem dX0_livesBy_113 : decode cX0_livesBy 113 = .ok (.aload_n 0, 1) := dk_42 (dk_at dksX0_livesBy_4 19 rfl rfl)
theorem dX0_livesBy_114 : decode cX0_livesBy 114 = .ok (.aload_n 3, 1) := dk_45 (dk_at dksX0_livesBy_4 20 rfl rfl)
theorem dX0_livesBy_115 : decode cX0_livesBy 115 = .ok (.invokevirtual 525, 3) := dk_182 2 13 (dk_at dksX0_livesBy_4 21 rfl rfl)
theorem dX0_livesBy_118 : decode cX0_livesBy 118 = .ok (.ifCond .ne 12, 3) := dk_154 0 12 (dk_at dksX0_livesBy_5 0 rfl rfl)
theorem dX0_livesBy_121 : decode cX0_livesBy 121 = .ok (.aload_n 3, 1) := dk_45 (dk_at dksX0_livesBy_5 3 rfl rfl)
theorem dX0_livesBy_122 : decode cX0_livesBy 122 = .ok (.getfield 516, 3) := dk_180 2 4 (dk_at dksX0_livesBy_5 4 rfl rfl)
theorem dX0_livesBy_125 : decode cX0_livesBy 125 = .ok (.iconst 1, 1) := dk_4 (dk_at dksX0_livesBy_5 7 rfl rfl)
theorem dX0_livesBy_126 : decode cX0_livesBy 126 = .ok (.iadd, 1) := dk_96 (dk_at dksX0_livesBy_5 8 rfl rfl)
theorem dX0_livesBy_127 : decode cX0_livesBy 127 = .ok (.goto 6, 3) := dk_167 0 6 (dk_at dksX0_livesBy_5 9 rfl rfl)
theorem dX0_livesBy_130 : decode cX0_livesBy 130 = .ok (.iload_n 2, 1) := dk_28 (dk_at dksX0_livesBy_5 12 rfl rfl)
theorem dX0_livesBy_131 : decode cX0_livesBy 131 = .ok (.iconst 1, 1) := dk_4 (dk_at dksX0_livesBy_5 13 rfl rfl)
theorem dX0_livesBy_132 : decode cX0_livesBy 132 = .ok (.iadd, 1) := dk_96 (dk_at dksX0_livesBy_5 14 rfl rfl)
theorem dX0_livesBy_133 : decode cX0_livesBy 133 = .ok (.invokevirtual 528, 3) := dk_182 2 16 (dk_at dksX0_livesBy_5 15 rfl rfl)
theorem dX0_livesBy_136 : decode cX0_livesBy 136 = .ok (.istore_n 2, 1) := dk_61 (dk_at dksX0_livesBy_5 18 rfl rfl)
theorem dX0_livesBy_137 : decode cX0_livesBy 137 = .ok (.goto (-105), 3) := dk_167 255 151 (dk_at dksX0_livesBy_5 19 rfl rfl)
theorem dX0_livesBy_140 : decode cX0_livesBy 140 = .ok (.return_, 1) := dk_177 (dk_at dksX0_livesBy_5 22 rfl rfl)
abbrev cX0_does : ByteArray := prog_1_method_97_code
def yX0_does : MethodName := ⟨RX0, "does", "(LHairProvince$Step;)Z"⟩
def dkwX0_does_5 : List UInt8 := [181, 1, 251, 4, 172, 4, 172]
abbrev dktX0_does_5 : List UInt8 := dkwX0_does_5 ++ []
def dkwX0_does_4 : List UInt8 := [42, 43, 180, 1, 232, 43, 180, 1, 238, 182, 1, 244, 172, 42, 182, 1, 247, 172, 43, 43, 180, 1, 232]
abbrev dktX0_does_4 : List UInt8 := dkwX0_does_4 ++ dktX0_does_5
def dkwX0_does_3 : List UInt8 := [180, 1, 238, 182, 1, 68, 172, 42, 43, 180, 1, 232, 43, 180, 1, 238, 43, 180, 1, 241, 182, 1, 226, 172]
abbrev dktX0_does_3 : List UInt8 := dkwX0_does_3 ++ dktX0_does_4
def dkwX0_does_2 : List UInt8 := [42, 43, 180, 1, 232, 182, 1, 235, 172, 42, 180, 0, 38, 180, 0, 211, 43, 180, 1, 232, 50, 43]
abbrev dktX0_does_2 : List UInt8 := dkwX0_does_2 ++ dktX0_does_3
def dkwX0_does_1 : List UInt8 := [170, 0, 0, 0, 0, 0, 0, 118, 0, 0, 0, 12, 0, 0, 0, 18, 0, 0, 0, 44, 0, 0, 0, 53, 0, 0, 0, 73, 0, 0, 0, 90, 0, 0, 0, 103, 0, 0, 0, 118, 0, 0, 0, 108]
abbrev dktX0_does_1 : List UInt8 := dkwX0_does_1 ++ dktX0_does_2
def dkwX0_does_0 : List UInt8 := [43, 180, 1, 229]
abbrev dktX0_does_0 : List UInt8 := dkwX0_does_0 ++ dktX0_does_1
theorem dksX0_does_0 : cX0_does.data.toList.drop 0 = dktX0_does_0 := by decide +kernel
theorem dksX0_does_1 : cX0_does.data.toList.drop 4 = dktX0_does_1 := dk_seg dksX0_does_0 4 rfl rfl
theorem dksX0_does_2 : cX0_does.data.toList.drop 48 = dktX0_does_2 := dk_seg dksX0_does_1 44 rfl rfl
theorem dksX0_does_3 : cX0_does.data.toList.drop 70 = dktX0_does_3 := dk_seg dksX0_does_2 22 rfl rfl
theorem dksX0_does_4 : cX0_does.data.toList.drop 94 = dktX0_does_4 := dk_seg dksX0_does_3 24 rfl rfl
theorem dksX0_does_5 : cX0_does.data.toList.drop 117 = dktX0_does_5 := dk_seg dksX0_does_4 23 rfl rfl
theorem dX0_does_0 : decode cX0_does 0 = .ok (.aload_n 1, 1) := dk_43 (dk_at dksX0_does_0 0 rfl rfl)
theorem dX0_does_1 : decode cX0_does 1 = .ok (.getfield 485, 3) := dk_180 1 229 (dk_at dksX0_does_0 1 rfl rfl)
theorem dX0_does_4 : decode cX0_does 4 = .ok (.tableswitch 118 12 18 #[44, 53, 73, 90, 103, 118, 108], 44) := by decide +kernel
theorem dX0_does_48 : decode cX0_does 48 = .ok (.aload_n 0, 1) := dk_42 (dk_at dksX0_does_2 0 rfl rfl)
theorem dX0_does_49 : decode cX0_does 49 = .ok (.aload_n 1, 1) := dk_43 (dk_at dksX0_does_2 1 rfl rfl)
theorem dX0_does_50 : decode cX0_does 50 = .ok (.getfield 488, 3) := dk_180 1 232 (dk_at dksX0_does_2 2 rfl rfl)
theorem dX0_does_53 : decode cX0_does 53 = .ok (.invokevirtual 491, 3) := dk_182 1 235 (dk_at dksX0_does_2 5 rfl rfl)
theorem dX0_does_56 : decode cX0_does 56 = .ok (.ireturn, 1) := dk_172 (dk_at dksX0_does_2 8 rfl rfl)
theorem dX0_does_57 : decode cX0_does 57 = .ok (.aload_n 0, 1) := dk_42 (dk_at dksX0_does_2 9 rfl rfl)
theorem dX0_does_58 : decode cX0_does 58 = .ok (.getfield 38, 3) := dk_180 0 38 (dk_at dksX0_does_2 10 rfl rfl)
theorem dX0_does_61 : decode cX0_does 61 = .ok (.getfield 211, 3) := dk_180 0 211 (dk_at dksX0_does_2 13 rfl rfl)
theorem dX0_does_64 : decode cX0_does 64 = .ok (.aload_n 1, 1) := dk_43 (dk_at dksX0_does_2 16 rfl rfl)
theorem dX0_does_65 : decode cX0_does 65 = .ok (.getfield 488, 3) := dk_180 1 232 (dk_at dksX0_does_2 17 rfl rfl)
theorem dX0_does_68 : decode cX0_does 68 = .ok (.aaload, 1) := dk_50 (dk_at dksX0_does_2 20 rfl rfl)
theorem dX0_does_69 : decode cX0_does 69 = .ok (.aload_n 1, 1) := dk_43 (dk_at dksX0_does_2 21 rfl rfl)
theorem dX0_does_70 : decode cX0_does 70 = .ok (.getfield 494, 3) := dk_180 1 238 (dk_at dksX0_does_3 0 rfl rfl)
theorem dX0_does_73 : decode cX0_does 73 = .ok (.invokevirtual 324, 3) := dk_182 1 68 (dk_at dksX0_does_3 3 rfl rfl)
theorem dX0_does_76 : decode cX0_does 76 = .ok (.ireturn, 1) := dk_172 (dk_at dksX0_does_3 6 rfl rfl)
theorem dX0_does_77 : decode cX0_does 77 = .ok (.aload_n 0, 1) := dk_42 (dk_at dksX0_does_3 7 rfl rfl)
theorem dX0_does_78 : decode cX0_does 78 = .ok (.aload_n 1, 1) := dk_43 (dk_at dksX0_does_3 8 rfl rfl)
theorem dX0_does_79 : decode cX0_does 79 = .ok (.getfield 488, 3) := dk_180 1 232 (dk_at dksX0_does_3 9 rfl rfl)
theorem dX0_does_82 : decode cX0_does 82 = .ok (.aload_n 1, 1) := dk_43 (dk_at dksX0_does_3 12 rfl rfl)
theorem dX0_does_83 : decode cX0_does 83 = .ok (.getfield 494, 3) := dk_180 1 238 (dk_at dksX0_does_3 13 rfl rfl)
theorem dX0_does_86 : decode cX0_does 86 = .ok (.aload_n 1, 1) := dk_43 (dk_at dksX0_does_3 16 rfl rfl)
theorem dX0_does_87 : decode cX0_does 87 = .ok (.getfield 497, 3) := dk_180 1 241 (dk_at dksX0_does_3 17 rfl rfl)
theorem dX0_does_90 : decode cX0_does 90 = .ok (.invokevirtual 482, 3) := dk_182 1 226 (dk_at dksX0_does_3 20 rfl rfl)
theorem dX0_does_93 : decode cX0_does 93 = .ok (.ireturn, 1) := dk_172 (dk_at dksX0_does_3 23 rfl rfl)
theorem dX0_does_94 : decode cX0_does 94 = .ok (.aload_n 0, 1) := dk_42 (dk_at dksX0_does_4 0 rfl rfl)
theorem dX0_does_95 : decode cX0_does 95 = .ok (.aload_n 1, 1) := dk_43 (dk_at dksX0_does_4 1 rfl rfl)
theorem dX0_does_96 : decode cX0_does 96 = .ok (.getfield 488, 3) := dk_180 1 232 (dk_at dksX0_does_4 2 rfl rfl)
theorem dX0_does_99 : decode cX0_does 99 = .ok (.aload_n 1, 1) := dk_43 (dk_at dksX0_does_4 5 rfl rfl)
theorem dX0_does_100 : decode cX0_does 100 = .ok (.getfield 494, 3) := dk_180 1 238 (dk_at dksX0_does_4 6 rfl rfl)
theorem dX0_does_103 : decode cX0_does 103 = .ok (.invokevirtual 500, 3) := dk_182 1 244 (dk_at dksX0_does_4 9 rfl rfl)
theorem dX0_does_106 : decode cX0_does 106 = .ok (.ireturn, 1) := dk_172 (dk_at dksX0_does_4 12 rfl rfl)
theorem dX0_does_107 : decode cX0_does 107 = .ok (.aload_n 0, 1) := dk_42 (dk_at dksX0_does_4 13 rfl rfl)
theorem dX0_does_108 : decode cX0_does 108 = .ok (.invokevirtual 503, 3) := dk_182 1 247 (dk_at dksX0_does_4 14 rfl rfl)
theorem dX0_does_111 : decode cX0_does 111 = .ok (.ireturn, 1) := dk_172 (dk_at dksX0_does_4 17 rfl rfl)
theorem dX0_does_112 : decode cX0_does 112 = .ok (.aload_n 1, 1) := dk_43 (dk_at dksX0_does_4 18 rfl rfl)
theorem dX0_does_113 : decode cX0_does 113 = .ok (.aload_n 1, 1) := dk_43 (dk_at dksX0_does_4 19 rfl rfl)
theorem dX0_does_114 : decode cX0_does 114 = .ok (.getfield 488, 3) := dk_180 1 232 (dk_at dksX0_does_4 20 rfl rfl)
theorem dX0_does_117 : decode cX0_does 117 = .ok (.putfield 507, 3) := dk_181 1 251 (dk_at dksX0_does_5 0 rfl rfl)
theorem dX0_does_120 : decode cX0_does 120 = .ok (.iconst 1, 1) := dk_4 (dk_at dksX0_does_5 3 rfl rfl)
theorem dX0_does_121 : decode cX0_does 121 = .ok (.ireturn, 1) := dk_172 (dk_at dksX0_does_5 4 rfl rfl)
theorem dX0_does_122 : decode cX0_does 122 = .ok (.iconst 1, 1) := dk_4 (dk_at dksX0_does_5 5 rfl rfl)
theorem dX0_does_123 : decode cX0_does 123 = .ok (.ireturn, 1) := dk_172 (dk_at dksX0_does_5 6 rfl rfl)
abbrev cX0_daysGo : ByteArray := prog_1_method_93_code
def yX0_daysGo : MethodName := ⟨RX0, "daysGo", "(I)Z"⟩
def dkwX0_daysGo_1 : List UInt8 := [42, 180, 0, 38, 27, 182, 1, 61, 96, 79, 42, 180, 0, 76, 4, 92, 46, 27, 96, 79, 4, 172]
abbrev dktX0_daysGo_1 : List UInt8 := dkwX0_daysGo_1 ++ []
def dkwX0_daysGo_0 : List UInt8 := [42, 180, 0, 38, 180, 0, 227, 27, 96, 17, 39, 15, 164, 0, 5, 3, 172, 42, 180, 0, 76, 5, 92, 46]
abbrev dktX0_daysGo_0 : List UInt8 := dkwX0_daysGo_0 ++ dktX0_daysGo_1
theorem dksX0_daysGo_0 : cX0_daysGo.data.toList.drop 0 = dktX0_daysGo_0 := by decide +kernel
theorem dksX0_daysGo_1 : cX0_daysGo.data.toList.drop 24 = dktX0_daysGo_1 := dk_seg dksX0_daysGo_0 24 rfl rfl
theorem dX0_daysGo_0 : decode cX0_daysGo 0 = .ok (.aload_n 0, 1) := dk_42 (dk_at dksX0_daysGo_0 0 rfl rfl)
theorem dX0_daysGo_1 : decode cX0_daysGo 1 = .ok (.getfield 38, 3) := dk_180 0 38 (dk_at dksX0_daysGo_0 1 rfl rfl)
theorem dX0_daysGo_4 : decode cX0_daysGo 4 = .ok (.getfield 227, 3) := dk_180 0 227 (dk_at dksX0_daysGo_0 4 rfl rfl)
theorem dX0_daysGo_7 : decode cX0_daysGo 7 = .ok (.iload_n 1, 1) := dk_27 (dk_at dksX0_daysGo_0 7 rfl rfl)
theorem dX0_daysGo_8 : decode cX0_daysGo 8 = .ok (.iadd, 1) := dk_96 (dk_at dksX0_daysGo_0 8 rfl rfl)
theorem dX0_daysGo_9 : decode cX0_daysGo 9 = .ok (.sipush 9999, 3) := dk_17 39 15 (dk_at dksX0_daysGo_0 9 rfl rfl)
theorem dX0_daysGo_12 : decode cX0_daysGo 12 = .ok (.if_icmp .le 5, 3) := dk_164 0 5 (dk_at dksX0_daysGo_0 12 rfl rfl)
theorem dX0_daysGo_15 : decode cX0_daysGo 15 = .ok (.iconst 0, 1) := dk_3 (dk_at dksX0_daysGo_0 15 rfl rfl)
theorem dX0_daysGo_16 : decode cX0_daysGo 16 = .ok (.ireturn, 1) := dk_172 (dk_at dksX0_daysGo_0 16 rfl rfl)
theorem dX0_daysGo_17 : decode cX0_daysGo 17 = .ok (.aload_n 0, 1) := dk_42 (dk_at dksX0_daysGo_0 17 rfl rfl)
theorem dX0_daysGo_18 : decode cX0_daysGo 18 = .ok (.getfield 76, 3) := dk_180 0 76 (dk_at dksX0_daysGo_0 18 rfl rfl)
theorem dX0_daysGo_21 : decode cX0_daysGo 21 = .ok (.iconst 2, 1) := dk_5 (dk_at dksX0_daysGo_0 21 rfl rfl)
theorem dX0_daysGo_22 : decode cX0_daysGo 22 = .ok (.dup2, 1) := dk_92 (dk_at dksX0_daysGo_0 22 rfl rfl)
theorem dX0_daysGo_23 : decode cX0_daysGo 23 = .ok (.iaload, 1) := dk_46 (dk_at dksX0_daysGo_0 23 rfl rfl)
theorem dX0_daysGo_24 : decode cX0_daysGo 24 = .ok (.aload_n 0, 1) := dk_42 (dk_at dksX0_daysGo_1 0 rfl rfl)
theorem dX0_daysGo_25 : decode cX0_daysGo 25 = .ok (.getfield 38, 3) := dk_180 0 38 (dk_at dksX0_daysGo_1 1 rfl rfl)
theorem dX0_daysGo_28 : decode cX0_daysGo 28 = .ok (.iload_n 1, 1) := dk_27 (dk_at dksX0_daysGo_1 4 rfl rfl)
theorem dX0_daysGo_29 : decode cX0_daysGo 29 = .ok (.invokevirtual 317, 3) := dk_182 1 61 (dk_at dksX0_daysGo_1 5 rfl rfl)
theorem dX0_daysGo_32 : decode cX0_daysGo 32 = .ok (.iadd, 1) := dk_96 (dk_at dksX0_daysGo_1 8 rfl rfl)
theorem dX0_daysGo_33 : decode cX0_daysGo 33 = .ok (.iastore, 1) := dk_79 (dk_at dksX0_daysGo_1 9 rfl rfl)
theorem dX0_daysGo_34 : decode cX0_daysGo 34 = .ok (.aload_n 0, 1) := dk_42 (dk_at dksX0_daysGo_1 10 rfl rfl)
theorem dX0_daysGo_35 : decode cX0_daysGo 35 = .ok (.getfield 76, 3) := dk_180 0 76 (dk_at dksX0_daysGo_1 11 rfl rfl)
theorem dX0_daysGo_38 : decode cX0_daysGo 38 = .ok (.iconst 1, 1) := dk_4 (dk_at dksX0_daysGo_1 14 rfl rfl)
theorem dX0_daysGo_39 : decode cX0_daysGo 39 = .ok (.dup2, 1) := dk_92 (dk_at dksX0_daysGo_1 15 rfl rfl)
theorem dX0_daysGo_40 : decode cX0_daysGo 40 = .ok (.iaload, 1) := dk_46 (dk_at dksX0_daysGo_1 16 rfl rfl)
theorem dX0_daysGo_41 : decode cX0_daysGo 41 = .ok (.iload_n 1, 1) := dk_27 (dk_at dksX0_daysGo_1 17 rfl rfl)
theorem dX0_daysGo_42 : decode cX0_daysGo 42 = .ok (.iadd, 1) := dk_96 (dk_at dksX0_daysGo_1 18 rfl rfl)
theorem dX0_daysGo_43 : decode cX0_daysGo 43 = .ok (.iastore, 1) := dk_79 (dk_at dksX0_daysGo_1 19 rfl rfl)
theorem dX0_daysGo_44 : decode cX0_daysGo 44 = .ok (.iconst 1, 1) := dk_4 (dk_at dksX0_daysGo_1 20 rfl rfl)
theorem dX0_daysGo_45 : decode cX0_daysGo 45 = .ok (.ireturn, 1) := dk_172 (dk_at dksX0_daysGo_1 21 rfl rfl)
abbrev cX0_saysBy : ByteArray := prog_1_method_94_code
def yX0_saysBy : MethodName := ⟨RX0, "saysBy", "(III)Z"⟩
def dkwX0_saysBy_1 : List UInt8 := [79, 4, 172]
abbrev dktX0_saysBy_1 : List UInt8 := dkwX0_saysBy_1 ++ []
def dkwX0_saysBy_0 : List UInt8 := [42, 180, 0, 38, 27, 28, 29, 182, 1, 64, 154, 0, 5, 3, 172, 42, 180, 0, 76, 5, 92, 46, 4, 96]
abbrev dktX0_saysBy_0 : List UInt8 := dkwX0_saysBy_0 ++ dktX0_saysBy_1
theorem dksX0_saysBy_0 : cX0_saysBy.data.toList.drop 0 = dktX0_saysBy_0 := by decide +kernel
theorem dksX0_saysBy_1 : cX0_saysBy.data.toList.drop 24 = dktX0_saysBy_1 := dk_seg dksX0_saysBy_0 24 rfl rfl
theorem dX0_saysBy_0 : decode cX0_saysBy 0 = .ok (.aload_n 0, 1) := dk_42 (dk_at dksX0_saysBy_0 0 rfl rfl)
theorem dX0_saysBy_1 : decode cX0_saysBy 1 = .ok (.getfield 38, 3) := dk_180 0 38 (dk_at dksX0_saysBy_0 1 rfl rfl)
theorem dX0_saysBy_4 : decode cX0_saysBy 4 = .ok (.iload_n 1, 1) := dk_27 (dk_at dksX0_saysBy_0 4 rfl rfl)
theorem dX0_saysBy_5 : decode cX0_saysBy 5 = .ok (.iload_n 2, 1) := dk_28 (dk_at dksX0_saysBy_0 5 rfl rfl)
theorem dX0_saysBy_6 : decode cX0_saysBy 6 = .ok (.iload_n 3, 1) := dk_29 (dk_at dksX0_saysBy_0 6 rfl rfl)
theorem dX0_saysBy_7 : decode cX0_saysBy 7 = .ok (.invokevirtual 320, 3) := dk_182 1 64 (dk_at dksX0_saysBy_0 7 rfl rfl)
theorem dX0_saysBy_10 : decode cX0_saysBy 10 = .ok (.ifCond .ne 5, 3) := dk_154 0 5 (dk_at dksX0_saysBy_0 10 rfl rfl)
theorem dX0_saysBy_13 : decode cX0_saysBy 13 = .ok (.iconst 0, 1) := dk_3 (dk_at dksX0_saysBy_0 13 rfl rfl)
theorem dX0_saysBy_14 : decode cX0_saysBy 14 = .ok (.ireturn, 1) := dk_172 (dk_at dksX0_saysBy_0 14 rfl rfl)
theorem dX0_saysBy_15 : decode cX0_saysBy 15 = .ok (.aload_n 0, 1) := dk_42 (dk_at dksX0_saysBy_0 15 rfl rfl)
theorem dX0_saysBy_16 : decode cX0_saysBy 16 = .ok (.getfield 76, 3) := dk_180 0 76 (dk_at dksX0_saysBy_0 16 rfl rfl)
theorem dX0_saysBy_19 : decode cX0_saysBy 19 = .ok (.iconst 2, 1) := dk_5 (dk_at dksX0_saysBy_0 19 rfl rfl)
theorem dX0_saysBy_20 : decode cX0_saysBy 20 = .ok (.dup2, 1) := dk_92 (dk_at dksX0_saysBy_0 20 rfl rfl)
theorem dX0_saysBy_21 : decode cX0_saysBy 21 = .ok (.iaload, 1) := dk_46 (dk_at dksX0_saysBy_0 21 rfl rfl)
theorem dX0_saysBy_22 : decode cX0_saysBy 22 = .ok (.iconst 1, 1) := dk_4 (dk_at dksX0_saysBy_0 22 rfl rfl)
theorem dX0_saysBy_23 : decode cX0_saysBy 23 = .ok (.iadd, 1) := dk_96 (dk_at dksX0_saysBy_0 23 rfl rfl)
theorem dX0_saysBy_24 : decode cX0_saysBy 24 = .ok (.iastore, 1) := dk_79 (dk_at dksX0_saysBy_1 0 rfl rfl)
theorem dX0_saysBy_25 : decode cX0_saysBy 25 = .ok (.iconst 1, 1) := dk_4 (dk_at dksX0_saysBy_1 1 rfl rfl)
theorem dX0_saysBy_26 : decode cX0_saysBy 26 = .ok (.ireturn, 1) := dk_172 (dk_at dksX0_saysBy_1 2 rfl rfl)
abbrev cX0_cutsBy : ByteArray := prog_1_method_96_code
def yX0_cutsBy : MethodName := ⟨RX0, "cutsBy", "(II)Z"⟩
def dkwX0_cutsBy_1 : List UInt8 := [79, 4, 172]
abbrev dktX0_cutsBy_1 : List UInt8 := dkwX0_cutsBy_1 ++ []
def dkwX0_cutsBy_0 : List UInt8 := [42, 180, 0, 38, 27, 28, 182, 1, 73, 2, 160, 0, 5, 3, 172, 42, 180, 0, 76, 6, 92, 46, 4, 96]
abbrev dktX0_cutsBy_0 : List UInt8 := dkwX0_cutsBy_0 ++ dktX0_cutsBy_1
theorem dksX0_cutsBy_0 : cX0_cutsBy.data.toList.drop 0 = dktX0_cutsBy_0 := by decide +kernel
theorem dksX0_cutsBy_1 : cX0_cutsBy.data.toList.drop 24 = dktX0_cutsBy_1 := dk_seg dksX0_cutsBy_0 24 rfl rfl
theorem dX0_cutsBy_0 : decode cX0_cutsBy 0 = .ok (.aload_n 0, 1) := dk_42 (dk_at dksX0_cutsBy_0 0 rfl rfl)
theorem dX0_cutsBy_1 : decode cX0_cutsBy 1 = .ok (.getfield 38, 3) := dk_180 0 38 (dk_at dksX0_cutsBy_0 1 rfl rfl)
theorem dX0_cutsBy_4 : decode cX0_cutsBy 4 = .ok (.iload_n 1, 1) := dk_27 (dk_at dksX0_cutsBy_0 4 rfl rfl)
theorem dX0_cutsBy_5 : decode cX0_cutsBy 5 = .ok (.iload_n 2, 1) := dk_28 (dk_at dksX0_cutsBy_0 5 rfl rfl)
theorem dX0_cutsBy_6 : decode cX0_cutsBy 6 = .ok (.invokevirtual 329, 3) := dk_182 1 73 (dk_at dksX0_cutsBy_0 6 rfl rfl)
theorem dX0_cutsBy_9 : decode cX0_cutsBy 9 = .ok (.iconst (-1), 1) := dk_2 (dk_at dksX0_cutsBy_0 9 rfl rfl)
theorem dX0_cutsBy_10 : decode cX0_cutsBy 10 = .ok (.if_icmp .ne 5, 3) := dk_160 0 5 (dk_at dksX0_cutsBy_0 10 rfl rfl)
theorem dX0_cutsBy_13 : decode cX0_cutsBy 13 = .ok (.iconst 0, 1) := dk_3 (dk_at dksX0_cutsBy_0 13 rfl rfl)
theorem dX0_cutsBy_14 : decode cX0_cutsBy 14 = .ok (.ireturn, 1) := dk_172 (dk_at dksX0_cutsBy_0 14 rfl rfl)
theorem dX0_cutsBy_15 : decode cX0_cutsBy 15 = .ok (.aload_n 0, 1) := dk_42 (dk_at dksX0_cutsBy_0 15 rfl rfl)
theorem dX0_cutsBy_16 : decode cX0_cutsBy 16 = .ok (.getfield 76, 3) := dk_180 0 76 (dk_at dksX0_cutsBy_0 16 rfl rfl)
theorem dX0_cutsBy_19 : decode cX0_cutsBy 19 = .ok (.iconst 3, 1) := dk_6 (dk_at dksX0_cutsBy_0 19 rfl rfl)
theorem dX0_cutsBy_20 : decode cX0_cutsBy 20 = .ok (.dup2, 1) := dk_92 (dk_at dksX0_cutsBy_0 20 rfl rfl)
theorem dX0_cutsBy_21 : decode cX0_cutsBy 21 = .ok (.iaload, 1) := dk_46 (dk_at dksX0_cutsBy_0 21 rfl rfl)
theorem dX0_cutsBy_22 : decode cX0_cutsBy 22 = .ok (.iconst 1, 1) := dk_4 (dk_at dksX0_cutsBy_0 22 rfl rfl)
theorem dX0_cutsBy_23 : decode cX0_cutsBy 23 = .ok (.iadd, 1) := dk_96 (dk_at dksX0_cutsBy_0 23 rfl rfl)
theorem dX0_cutsBy_24 : decode cX0_cutsBy 24 = .ok (.iastore, 1) := dk_79 (dk_at dksX0_cutsBy_1 0 rfl rfl)
theorem dX0_cutsBy_25 : decode cX0_cutsBy 25 = .ok (.iconst 1, 1) := dk_4 (dk_at dksX0_cutsBy_1 1 rfl rfl)
theorem dX0_cutsBy_26 : decode cX0_cutsBy 26 = .ok (.ireturn, 1) := dk_172 (dk_at dksX0_cutsBy_1 2 rfl rfl)
abbrev cX0_saysAny : ByteArray := prog_1_method_95_code
def yX0_saysAny : MethodName := ⟨RX0, "saysAny", "()Z"⟩
def dkwX0_saysAny_2 : List UInt8 := [28, 42, 42, 180, 0, 38, 180, 0, 152, 182, 1, 223, 182, 1, 226, 172]
abbrev dktX0_saysAny_2 : List UInt8 := dkwX0_saysAny_2 ++ []
def dkwX0_saysAny_1 : List UInt8 := [180, 0, 38, 180, 0, 152, 182, 1, 223, 60, 42, 42, 180, 0, 38, 180, 0, 147, 182, 1, 223, 61, 42, 27]
abbrev dktX0_saysAny_1 : List UInt8 := dkwX0_saysAny_1 ++ dktX0_saysAny_2
def dkwX0_saysAny_0 : List UInt8 := [42, 180, 0, 38, 180, 0, 152, 153, 0, 13, 42, 180, 0, 38, 180, 0, 147, 154, 0, 5, 3, 172, 42, 42]
abbrev dktX0_saysAny_0 : List UInt8 := dkwX0_saysAny_0 ++ dktX0_saysAny_1
theorem dksX0_saysAny_0 : cX0_saysAny.data.toList.drop 0 = dktX0_saysAny_0 := by decide +kernel
theorem dksX0_saysAny_1 : cX0_saysAny.data.toList.drop 24 = dktX0_saysAny_1 := dk_seg dksX0_saysAny_0 24 rfl rfl
theorem dksX0_saysAny_2 : cX0_saysAny.data.toList.drop 48 = dktX0_saysAny_2 := dk_seg dksX0_saysAny_1 24 rfl rfl
theorem dX0_saysAny_0 : decode cX0_saysAny 0 = .ok (.aload_n 0, 1) := dk_42 (dk_at dksX0_saysAny_0 0 rfl rfl)
theorem dX0_saysAny_1 : decode cX0_saysAny 1 = .ok (.getfield 38, 3) := dk_180 0 38 (dk_at dksX0_saysAny_0 1 rfl rfl)
theorem dX0_saysAny_4 : decode cX0_saysAny 4 = .ok (.getfield 152, 3) := dk_180 0 152 (dk_at dksX0_saysAny_0 4 rfl rfl)
theorem dX0_saysAny_7 : decode cX0_saysAny 7 = .ok (.ifCond .eq 13, 3) := dk_153 0 13 (dk_at dksX0_saysAny_0 7 rfl rfl)
theorem dX0_saysAny_10 : decode cX0_saysAny 10 = .ok (.aload_n 0, 1) := dk_42 (dk_at dksX0_saysAny_0 10 rfl rfl)
theorem dX0_saysAny_11 : decode cX0_saysAny 11 = .ok (.getfield 38, 3) := dk_180 0 38 (dk_at dksX0_saysAny_0 11 rfl rfl)
theorem dX0_saysAny_14 : decode cX0_saysAny 14 = .ok (.getfield 147, 3) := dk_180 0 147 (dk_at dksX0_saysAny_0 14 rfl rfl)
theorem dX0_saysAny_17 : decode cX0_saysAny 17 = .ok (.ifCond .ne 5, 3) := dk_154 0 5 (dk_at dksX0_saysAny_0 17 rfl rfl)
theorem dX0_saysAny_20 : decode cX0_saysAny 20 = .ok (.iconst 0, 1) := dk_3 (dk_at dksX0_saysAny_0 20 rfl rfl)
theorem dX0_saysAny_21 : decode cX0_saysAny 21 = .ok (.ireturn, 1) := dk_172 (dk_at dksX0_saysAny_0 21 rfl rfl)
theorem dX0_saysAny_22 : decode cX0_saysAny 22 = .ok (.aload_n 0, 1) := dk_42 (dk_at dksX0_saysAny_0 22 rfl rfl)
theorem dX0_saysAny_23 : decode cX0_saysAny 23 = .ok (.aload_n 0, 1) := dk_42 (dk_at dksX0_saysAny_0 23 rfl rfl)
theorem dX0_saysAny_24 : decode cX0_saysAny 24 = .ok (.getfield 38, 3) := dk_180 0 38 (dk_at dksX0_saysAny_1 0 rfl rfl)
theorem dX0_saysAny_27 : decode cX0_saysAny 27 = .ok (.getfield 152, 3) := dk_180 0 152 (dk_at dksX0_saysAny_1 3 rfl rfl)
theorem dX0_saysAny_30 : decode cX0_saysAny 30 = .ok (.invokevirtual 479, 3) := dk_182 1 223 (dk_at dksX0_saysAny_1 6 rfl rfl)
theorem dX0_saysAny_33 : decode cX0_saysAny 33 = .ok (.istore_n 1, 1) := dk_60 (dk_at dksX0_saysAny_1 9 rfl rfl)
theorem dX0_saysAny_34 : decode cX0_saysAny 34 = .ok (.aload_n 0, 1) := dk_42 (dk_at dksX0_saysAny_1 10 rfl rfl)
theorem dX0_saysAny_35 : decode cX0_saysAny 35 = .ok (.aload_n 0, 1) := dk_42 (dk_at dksX0_saysAny_1 11 rfl rfl)
theorem dX0_saysAny_36 : decode cX0_saysAny 36 = .ok (.getfield 38, 3) := dk_180 0 38 (dk_at dksX0_saysAny_1 12 rfl rfl)
theorem dX0_saysAny_39 : decode cX0_saysAny 39 = .ok (.getfield 147, 3) := dk_180 0 147 (dk_at dksX0_saysAny_1 15 rfl rfl)
theorem dX0_saysAny_42 : decode cX0_saysAny 42 = .ok (.invokevirtual 479, 3) := dk_182 1 223 (dk_at dksX0_saysAny_1 18 rfl rfl)
theorem dX0_saysAny_45 : decode cX0_saysAny 45 = .ok (.istore_n 2, 1) := dk_61 (dk_at dksX0_saysAny_1 21 rfl rfl)
theorem dX0_saysAny_46 : decode cX0_saysAny 46 = .ok (.aload_n 0, 1) := dk_42 (dk_at dksX0_saysAny_1 22 rfl rfl)
theorem dX0_saysAny_47 : decode cX0_saysAny 47 = .ok (.iload_n 1, 1) := dk_27 (dk_at dksX0_saysAny_1 23 rfl rfl)
theorem dX0_saysAny_48 : decode cX0_saysAny 48 = .ok (.iload_n 2, 1) := dk_28 (dk_at dksX0_saysAny_2 0 rfl rfl)
theorem dX0_saysAny_49 : decode cX0_saysAny 49 = .ok (.aload_n 0, 1) := dk_42 (dk_at dksX0_saysAny_2 1 rfl rfl)
theorem dX0_saysAny_50 : decode cX0_saysAny 50 = .ok (.aload_n 0, 1) := dk_42 (dk_at dksX0_saysAny_2 2 rfl rfl)
theorem dX0_saysAny_51 : decode cX0_saysAny 51 = .ok (.getfield 38, 3) := dk_180 0 38 (dk_at dksX0_saysAny_2 3 rfl rfl)
theorem dX0_saysAny_54 : decode cX0_saysAny 54 = .ok (.getfield 152, 3) := dk_180 0 152 (dk_at dksX0_saysAny_2 6 rfl rfl)
theorem dX0_saysAny_57 : decode cX0_saysAny 57 = .ok (.invokevirtual 479, 3) := dk_182 1 223 (dk_at dksX0_saysAny_2 9 rfl rfl)
theorem dX0_saysAny_60 : decode cX0_saysAny 60 = .ok (.invokevirtual 482, 3) := dk_182 1 226 (dk_at dksX0_saysAny_2 12 rfl rfl)
theorem dX0_saysAny_63 : decode cX0_saysAny 63 = .ok (.ireturn, 1) := dk_172 (dk_at dksX0_saysAny_2 15 rfl rfl)
abbrev cX0_draw : ByteArray := prog_1_method_92_code
def yX0_draw : MethodName := ⟨RX0, "draw", "(I)I"⟩
def dkwX0_draw_1 : List UInt8 := [16, 8, 108, 27, 112, 172]
abbrev dktX0_draw_1 : List UInt8 := dkwX0_draw_1 ++ []
def dkwX0_draw_0 : List UInt8 := [42, 42, 180, 1, 219, 17, 11, 155, 104, 17, 42, 37, 96, 19, 1, 222, 112, 181, 1, 219, 42, 180, 1, 219]
abbrev dktX0_draw_0 : List UInt8 := dkwX0_draw_0 ++ dktX0_draw_1
theorem dksX0_draw_0 : cX0_draw.data.toList.drop 0 = dktX0_draw_0 := by decide +kernel
theorem dksX0_draw_1 : cX0_draw.data.toList.drop 24 = dktX0_draw_1 := dk_seg dksX0_draw_0 24 rfl rfl
theorem dX0_draw_0 : decode cX0_draw 0 = .ok (.aload_n 0, 1) := dk_42 (dk_at dksX0_draw_0 0 rfl rfl)
theorem dX0_draw_1 : decode cX0_draw 1 = .ok (.aload_n 0, 1) := dk_42 (dk_at dksX0_draw_0 1 rfl rfl)
theorem dX0_draw_2 : decode cX0_draw 2 = .ok (.getfield 475, 3) := dk_180 1 219 (dk_at dksX0_draw_0 2 rfl rfl)
theorem dX0_draw_5 : decode cX0_draw 5 = .ok (.sipush 2971, 3) := dk_17 11 155 (dk_at dksX0_draw_0 5 rfl rfl)
theorem dX0_draw_8 : decode cX0_draw 8 = .ok (.imul, 1) := dk_104 (dk_at dksX0_draw_0 8 rfl rfl)
theorem dX0_draw_9 : decode cX0_draw 9 = .ok (.sipush 10789, 3) := dk_17 42 37 (dk_at dksX0_draw_0 9 rfl rfl)
theorem dX0_draw_12 : decode cX0_draw 12 = .ok (.iadd, 1) := dk_96 (dk_at dksX0_draw_0 12 rfl rfl)
theorem dX0_draw_13 : decode cX0_draw 13 = .ok (.ldc_w 478, 3) := dk_19 1 222 (dk_at dksX0_draw_0 13 rfl rfl)
theorem dX0_draw_16 : decode cX0_draw 16 = .ok (.irem, 1) := dk_112 (dk_at dksX0_draw_0 16 rfl rfl)
theorem dX0_draw_17 : decode cX0_draw 17 = .ok (.putfield 475, 3) := dk_181 1 219 (dk_at dksX0_draw_0 17 rfl rfl)
theorem dX0_draw_20 : decode cX0_draw 20 = .ok (.aload_n 0, 1) := dk_42 (dk_at dksX0_draw_0 20 rfl rfl)
theorem dX0_draw_21 : decode cX0_draw 21 = .ok (.getfield 475, 3) := dk_180 1 219 (dk_at dksX0_draw_0 21 rfl rfl)
theorem dX0_draw_24 : decode cX0_draw 24 = .ok (.bipush 8, 2) := dk_16 8 (dk_at dksX0_draw_1 0 rfl rfl)
theorem dX0_draw_26 : decode cX0_draw 26 = .ok (.idiv, 1) := dk_108 (dk_at dksX0_draw_1 2 rfl rfl)
theorem dX0_draw_27 : decode cX0_draw 27 = .ok (.iload_n 1, 1) := dk_27 (dk_at dksX0_draw_1 3 rfl rfl)
theorem dX0_draw_28 : decode cX0_draw 28 = .ok (.irem, 1) := dk_112 (dk_at dksX0_draw_1 4 rfl rfl)
theorem dX0_draw_29 : decode cX0_draw 29 = .ok (.ireturn, 1) := dk_172 (dk_at dksX0_draw_1 5 rfl rfl)
abbrev cX0_holds : ByteArray := prog_1_method_98_code
def yX0_holds : MethodName := ⟨RX0, "holds", "(LHairProvince$Step;)Z"⟩
def dkwX0_holds_4 : List UInt8 := [180, 1, 238, 160, 0, 7, 4, 167, 0, 4, 3, 172]
abbrev dktX0_holds_4 : List UInt8 := dkwX0_holds_4 ++ []
def dkwX0_holds_3 : List UInt8 := [16, 62, 160, 0, 19, 29, 43, 180, 1, 238, 164, 0, 7, 4, 167, 0, 20, 3, 167, 0, 16, 29, 43]
abbrev dktX0_holds_3 : List UInt8 := dkwX0_holds_3 ++ dktX0_holds_4
def dkwX0_holds_2 : List UInt8 := [160, 0, 19, 29, 43, 180, 1, 238, 162, 0, 7, 4, 167, 0, 45, 3, 167, 0, 41, 43, 180, 2, 1]
abbrev dktX0_holds_2 : List UInt8 := dkwX0_holds_2 ++ dktX0_holds_3
def dkwX0_holds_1 : List UInt8 := [180, 1, 14, 43, 180, 1, 238, 184, 1, 23, 172, 44, 182, 1, 20, 62, 43, 180, 2, 1, 16, 60]
abbrev dktX0_holds_1 : List UInt8 := dkwX0_holds_1 ++ dktX0_holds_2
def dkwX0_holds_0 : List UInt8 := [42, 180, 0, 38, 180, 0, 211, 43, 180, 1, 232, 50, 77, 43, 180, 1, 254, 16, 23, 160, 0, 15, 44]
abbrev dktX0_holds_0 : List UInt8 := dkwX0_holds_0 ++ dktX0_holds_1
theorem dksX0_holds_0 : cX0_holds.data.toList.drop 0 = dktX0_holds_0 := by decide +kernel
theorem dksX0_holds_1 : cX0_holds.data.toList.drop 23 = dktX0_holds_1 := dk_seg dksX0_holds_0 23 rfl rfl
theorem dksX0_holds_2 : cX0_holds.data.toList.drop 45 = dktX0_holds_2 := dk_seg dksX0_holds_1 22 rfl rfl
theorem dksX0_holds_3 : cX0_holds.data.toList.drop 68 = dktX0_holds_3 := dk_seg dksX0_holds_2 23 rfl rfl
theorem dksX0_holds_4 : cX0_holds.data.toList.drop 91 = dktX0_holds_4 := dk_seg dksX0_holds_3 23 rfl rfl
theorem dX0_holds_0 : decode cX0_holds 0 = .ok (.aload_n 0, 1) := dk_42 (dk_at dksX0_holds_0 0 rfl rfl)
theorem dX0_holds_1 : decode cX0_holds 1 = .ok (.getfield 38, 3) := dk_180 0 38 (dk_at dksX0_holds_0 1 rfl rfl)
theorem dX0_holds_4 : decode cX0_holds 4 = .ok (.getfield 211, 3) := dk_180 0 211 (dk_at dksX0_holds_0 4 rfl rfl)
theorem dX0_holds_7 : decode cX0_holds 7 = .ok (.aload_n 1, 1) := dk_43 (dk_at dksX0_holds_0 7 rfl rfl)
theorem dX0_holds_8 : decode cX0_holds 8 = .ok (.getfield 488, 3) := dk_180 1 232 (dk_at dksX0_holds_0 8 rfl rfl)
theorem dX0_holds_11 : decode cX0_holds 11 = .ok (.aaload, 1) := dk_50 (dk_at dksX0_holds_0 11 rfl rfl)
theorem dX0_holds_12 : decode cX0_holds 12 = .ok (.astore_n 2, 1) := dk_77 (dk_at dksX0_holds_0 12 rfl rfl)
theorem dX0_holds_13 : decode cX0_holds 13 = .ok (.aload_n 1, 1) := dk_43 (dk_at dksX0_holds_0 13 rfl rfl)
theorem dX0_holds_14 : decode cX0_holds 14 = .ok (.getfield 510, 3) := dk_180 1 254 (dk_at dksX0_holds_0 14 rfl rfl)
theorem dX0_holds_17 : decode cX0_holds 17 = .ok (.bipush 23, 2) := dk_16 23 (dk_at dksX0_holds_0 17 rfl rfl)
theorem dX0_holds_19 : decode cX0_holds 19 = .ok (.if_icmp .ne 15, 3) := dk_160 0 15 (dk_at dksX0_holds_0 19 rfl rfl)
theorem dX0_holds_22 : decode cX0_holds 22 = .ok (.aload_n 2, 1) := dk_44 (dk_at dksX0_holds_0 22 rfl rfl)
theorem dX0_holds_23 : decode cX0_holds 23 = .ok (.getfield 270, 3) := dk_180 1 14 (dk_at dksX0_holds_1 0 rfl rfl)
theorem dX0_holds_26 : decode cX0_holds 26 = .ok (.aload_n 1, 1) := dk_43 (dk_at dksX0_holds_1 3 rfl rfl)
theorem dX0_holds_27 : decode cX0_holds 27 = .ok (.getfield 494, 3) := dk_180 1 238 (dk_at dksX0_holds_1 4 rfl rfl)
theorem dX0_holds_30 : decode cX0_holds 30 = .ok (.invokestatic 279, 3) := dk_184 1 23 (dk_at dksX0_holds_1 7 rfl rfl)
theorem dX0_holds_33 : decode cX0_holds 33 = .ok (.ireturn, 1) := dk_172 (dk_at dksX0_holds_1 10 rfl rfl)
theorem dX0_holds_34 : decode cX0_holds 34 = .ok (.aload_n 2, 1) := dk_44 (dk_at dksX0_holds_1 11 rfl rfl)
theorem dX0_holds_35 : decode cX0_holds 35 = .ok (.invokevirtual 276, 3) := dk_182 1 20 (dk_at dksX0_holds_1 12 rfl rfl)
theorem dX0_holds_38 : decode cX0_holds 38 = .ok (.istore_n 3, 1) := dk_62 (dk_at dksX0_holds_1 15 rfl rfl)
theorem dX0_holds_39 : decode cX0_holds 39 = .ok (.aload_n 1, 1) := dk_43 (dk_at dksX0_holds_1 16 rfl rfl)
theorem dX0_holds_40 : decode cX0_holds 40 = .ok (.getfield 513, 3) := dk_180 2 1 (dk_at dksX0_holds_1 17 rfl rfl)
theorem dX0_holds_43 : decode cX0_holds 43 = .ok (.bipush 60, 2) := dk_16 60 (dk_at dksX0_holds_1 20 rfl rfl)
theorem dX0_holds_45 : decode cX0_holds 45 = .ok (.if_icmp .ne 19, 3) := dk_160 0 19 (dk_at dksX0_holds_2 0 rfl rfl)
theorem dX0_holds_48 : decode cX0_holds 48 = .ok (.iload_n 3, 1) := dk_29 (dk_at dksX0_holds_2 3 rfl rfl)
theorem dX0_holds_49 : decode cX0_holds 49 = .ok (.aload_n 1, 1) := dk_43 (dk_at dksX0_holds_2 4 rfl rfl)
theorem dX0_holds_50 : decode cX0_holds 50 = .ok (.getfield 494, 3) := dk_180 1 238 (dk_at dksX0_holds_2 5 rfl rfl)
theorem dX0_holds_53 : decode cX0_holds 53 = .ok (.if_icmp .ge 7, 3) := dk_162 0 7 (dk_at dksX0_holds_2 8 rfl rfl)
theorem dX0_holds_56 : decode cX0_holds 56 = .ok (.iconst 1, 1) := dk_4 (dk_at dksX0_holds_2 11 rfl rfl)
theorem dX0_holds_57 : decode cX0_holds 57 = .ok (.goto 45, 3) := dk_167 0 45 (dk_at dksX0_holds_2 12 rfl rfl)
theorem dX0_holds_60 : decode cX0_holds 60 = .ok (.iconst 0, 1) := dk_3 (dk_at dksX0_holds_2 15 rfl rfl)
theorem dX0_holds_61 : decode cX0_holds 61 = .ok (.goto 41, 3) := dk_167 0 41 (dk_at dksX0_holds_2 16 rfl rfl)
theorem dX0_holds_64 : decode cX0_holds 64 = .ok (.aload_n 1, 1) := dk_43 (dk_at dksX0_holds_2 19 rfl rfl)
theorem dX0_holds_65 : decode cX0_holds 65 = .ok (.getfield 513, 3) := dk_180 2 1 (dk_at dksX0_holds_2 20 rfl rfl)
theorem dX0_holds_68 : decode cX0_holds 68 = .ok (.bipush 62, 2) := dk_16 62 (dk_at dksX0_holds_3 0 rfl rfl)
theorem dX0_holds_70 : decode cX0_holds 70 = .ok (.if_icmp .ne 19, 3) := dk_160 0 19 (dk_at dksX0_holds_3 2 rfl rfl)
theorem dX0_holds_73 : decode cX0_holds 73 = .ok (.iload_n 3, 1) := dk_29 (dk_at dksX0_holds_3 5 rfl rfl)
theorem dX0_holds_74 : decode cX0_holds 74 = .ok (.aload_n 1, 1) := dk_43 (dk_at dksX0_holds_3 6 rfl rfl)
theorem dX0_holds_75 : decode cX0_holds 75 = .ok (.getfield 494, 3) := dk_180 1 238 (dk_at dksX0_holds_3 7 rfl rfl)
theorem dX0_holds_78 : decode cX0_holds 78 = .ok (.if_icmp .le 7, 3) := dk_164 0 7 (dk_at dksX0_holds_3 10 rfl rfl)
theorem dX0_holds_81 : decode cX0_holds 81 = .ok (.iconst 1, 1) := dk_4 (dk_at dksX0_holds_3 13 rfl rfl)
theorem dX0_holds_82 : decode cX0_holds 82 = .ok (.goto 20, 3) := dk_167 0 20 (dk_at dksX0_holds_3 14 rfl rfl)
theorem dX0_holds_85 : decode cX0_holds 85 = .ok (.iconst 0, 1) := dk_3 (dk_at dksX0_holds_3 17 rfl rfl)
theorem dX0_holds_86 : decode cX0_holds 86 = .ok (.goto 16, 3) := dk_167 0 16 (dk_at dksX0_holds_3 18 rfl rfl)
theorem dX0_holds_89 : decode cX0_holds 89 = .ok (.iload_n 3, 1) := dk_29 (dk_at dksX0_holds_3 21 rfl rfl)
theorem dX0_holds_90 : decode cX0_holds 90 = .ok (.aload_n 1, 1) := dk_43 (dk_at dksX0_holds_3 22 rfl rfl)
theorem dX0_holds_91 : decode cX0_holds 91 = .ok (.getfield 494, 3) := dk_180 1 238 (dk_at dksX0_holds_4 0 rfl rfl)
theorem dX0_holds_94 : decode cX0_holds 94 = .ok (.if_icmp .ne 7, 3) := dk_160 0 7 (dk_at dksX0_holds_4 3 rfl rfl)
theorem dX0_holds_97 : decode cX0_holds 97 = .ok (.iconst 1, 1) := dk_4 (dk_at dksX0_holds_4 6 rfl rfl)
theorem dX0_holds_98 : decode cX0_holds 98 = .ok (.goto 4, 3) := dk_167 0 4 (dk_at dksX0_holds_4 7 rfl rfl)
theorem dX0_holds_101 : decode cX0_holds 101 = .ok (.iconst 0, 1) := dk_3 (dk_at dksX0_holds_4 10 rfl rfl)
theorem dX0_holds_102 : decode cX0_holds 102 = .ok (.ireturn, 1) := dk_172 (dk_at dksX0_holds_4 11 rfl rfl)
abbrev cX0_behindEnds : ByteArray := prog_1_method_99_code
def yX0_behindEnds : MethodName := ⟨RX0, "behindEnds", "(I)I"⟩
def dkwX0_behindEnds_4 : List UInt8 := [96, 61, 167, 255, 160, 28, 172]
abbrev dktX0_behindEnds_4 : List UInt8 := dkwX0_behindEnds_4 ++ []
def dkwX0_behindEnds_3 : List UInt8 := [3, 54, 4, 21, 4, 153, 0, 17, 42, 180, 0, 196, 28, 50, 180, 2, 4, 4, 96, 167, 0, 6, 28, 4]
abbrev dktX0_behindEnds_3 : List UInt8 := dkwX0_behindEnds_3 ++ dktX0_behindEnds_4
def dkwX0_behindEnds_2 : List UInt8 := [160, 0, 27, 45, 89, 180, 1, 251, 4, 100, 181, 1, 251, 45, 180, 1, 251, 158, 0, 7, 4, 167, 0, 4]
abbrev dktX0_behindEnds_2 : List UInt8 := dkwX0_behindEnds_2 ++ dktX0_behindEnds_3
def dkwX0_behindEnds_1 : List UInt8 := [42, 180, 0, 196, 42, 180, 0, 196, 28, 50, 180, 2, 4, 50, 78, 3, 54, 4, 45, 180, 1, 229, 16, 18]
abbrev dktX0_behindEnds_1 : List UInt8 := dkwX0_behindEnds_1 ++ dktX0_behindEnds_2
def dkwX0_behindEnds_0 : List UInt8 := [27, 61, 28, 42, 180, 0, 200, 162, 0, 94, 42, 180, 0, 196, 28, 50, 180, 1, 229, 16, 20, 160, 0, 80]
abbrev dktX0_behindEnds_0 : List UInt8 := dkwX0_behindEnds_0 ++ dktX0_behindEnds_1
theorem dksX0_behindEnds_0 : cX0_behindEnds.data.toList.drop 0 = dktX0_behindEnds_0 := by decide +kernel
theorem dksX0_behindEnds_1 : cX0_behindEnds.data.toList.drop 24 = dktX0_behindEnds_1 := dk_seg dksX0_behindEnds_0 24 rfl rfl
theorem dksX0_behindEnds_2 : cX0_behindEnds.data.toList.drop 48 = dktX0_behindEnds_2 := dk_seg dksX0_behindEnds_1 24 rfl rfl
theorem dksX0_behindEnds_3 : cX0_behindEnds.data.toList.drop 72 = dktX0_behindEnds_3 := dk_seg dksX0_behindEnds_2 24 rfl rfl
theorem dksX0_behindEnds_4 : cX0_behindEnds.data.toList.drop 96 = dktX0_behindEnds_4 := dk_seg dksX0_behindEnds_3 24 rfl rfl
theorem dX0_behindEnds_0 : decode cX0_behindEnds 0 = .ok (.iload_n 1, 1) := dk_27 (dk_at dksX0_behindEnds_0 0 rfl rfl)
theorem dX0_behindEnds_1 : decode cX0_behindEnds 1 = .ok (.istore_n 2, 1) := dk_61 (dk_at dksX0_behindEnds_0 1 rfl rfl)
theorem dX0_behindEnds_2 : decode cX0_behindEnds 2 = .ok (.iload_n 2, 1) := dk_28 (dk_at dksX0_behindEnds_0 2 rfl rfl)
theorem dX0_behindEnds_3 : decode cX0_behindEnds 3 = .ok (.aload_n 0, 1) := dk_42 (dk_at dksX0_behindEnds_0 3 rfl rfl)
theorem dX0_behindEnds_4 : decode cX0_behindEnds 4 = .ok (.getfield 200, 3) := dk_180 0 200 (dk_at dksX0_behindEnds_0 4 rfl rfl)
theorem dX0_behindEnds_7 : decode cX0_behindEnds 7 = .ok (.if_icmp .ge 94, 3) := dk_162 0 94 (dk_at dksX0_behindEnds_0 7 rfl rfl)
theorem dX0_behindEnds_10 : decode cX0_behindEnds 10 = .ok (.aload_n 0, 1) := dk_42 (dk_at dksX0_behindEnds_0 10 rfl rfl)
theorem dX0_behindEnds_11 : decode cX0_behindEnds 11 = .ok (.getfield 196, 3) := dk_180 0 196 (dk_at dksX0_behindEnds_0 11 rfl rfl)
theorem dX0_behindEnds_14 : decode cX0_behindEnds 14 = .ok (.iload_n 2, 1) := dk_28 (dk_at dksX0_behindEnds_0 14 rfl rfl)
theorem dX0_behindEnds_15 : decode cX0_behindEnds 15 = .ok (.aaload, 1) := dk_50 (dk_at dksX0_behindEnds_0 15 rfl rfl)
theorem dX0_behindEnds_16 : decode cX0_behindEnds 16 = .ok (.getfield 485, 3) := dk_180 1 229 (dk_at dksX0_behindEnds_0 16 rfl rfl)
theorem dX0_behindEnds_19 : decode cX0_behindEnds 19 = .ok (.bipush 20, 2) := dk_16 20 (dk_at dksX0_behindEnds_0 19 rfl rfl)
theorem dX0_behindEnds_21 : decode cX0_behindEnds 21 = .ok (.if_icmp .ne 80, 3) := dk_160 0 80 (dk_at dksX0_behindEnds_0 21 rfl rfl)
theorem dX0_behindEnds_24 : decode cX0_behindEnds 24 = .ok (.aload_n 0, 1) := dk_42 (dk_at dksX0_behindEnds_1 0 rfl rfl)
theorem dX0_behindEnds_25 : decode cX0_behindEnds 25 = .ok (.getfield 196, 3) := dk_180 0 196 (dk_at dksX0_behindEnds_1 1 rfl rfl)
theorem dX0_behindEnds_28 : decode cX0_behindEnds 28 = .ok (.aload_n 0, 1) := dk_42 (dk_at dksX0_behindEnds_1 4 rfl rfl)
theorem dX0_behindEnds_29 : decode cX0_behindEnds 29 = .ok (.getfield 196, 3) := dk_180 0 196 (dk_at dksX0_behindEnds_1 5 rfl rfl)
theorem dX0_behindEnds_32 : decode cX0_behindEnds 32 = .ok (.iload_n 2, 1) := dk_28 (dk_at dksX0_behindEnds_1 8 rfl rfl)
theorem dX0_behindEnds_33 : decode cX0_behindEnds 33 = .ok (.aaload, 1) := dk_50 (dk_at dksX0_behindEnds_1 9 rfl rfl)
theorem dX0_behindEnds_34 : decode cX0_behindEnds 34 = .ok (.getfield 516, 3) := dk_180 2 4 (dk_at dksX0_behindEnds_1 10 rfl rfl)
theorem dX0_behindEnds_37 : decode cX0_behindEnds 37 = .ok (.aaload, 1) := dk_50 (dk_at dksX0_behindEnds_1 13 rfl rfl)
theorem dX0_behindEnds_38 : decode cX0_behindEnds 38 = .ok (.astore_n 3, 1) := dk_78 (dk_at dksX0_behindEnds_1 14 rfl rfl)
theorem dX0_behindEnds_39 : decode cX0_behindEnds 39 = .ok (.iconst 0, 1) := dk_3 (dk_at dksX0_behindEnds_1 15 rfl rfl)
theorem dX0_behindEnds_40 : decode cX0_behindEnds 40 = .ok (.istore 4, 2) := dk_54 4 (dk_at dksX0_behindEnds_1 16 rfl rfl)
theorem dX0_behindEnds_42 : decode cX0_behindEnds 42 = .ok (.aload_n 3, 1) := dk_45 (dk_at dksX0_behindEnds_1 18 rfl rfl)
theorem dX0_behindEnds_43 : decode cX0_behindEnds 43 = .ok (.getfield 485, 3) := dk_180 1 229 (dk_at dksX0_behindEnds_1 19 rfl rfl)
theorem dX0_behindEnds_46 : decode cX0_behindEnds 46 = .ok (.bipush 18, 2) := dk_16 18 (dk_at dksX0_behindEnds_1 22 rfl rfl)
theorem dX0_behindEnds_48 : decode cX0_behindEnds 48 = .ok (.if_icmp .ne 27, 3) := dk_160 0 27 (dk_at dksX0_behindEnds_2 0 rfl rfl)
theorem dX0_behindEnds_51 : decode cX0_behindEnds 51 = .ok (.aload_n 3, 1) := dk_45 (dk_at dksX0_behindEnds_2 3 rfl rfl)
theorem dX0_behindEnds_52 : decode cX0_behindEnds 52 = .ok (.dup, 1) := dk_89 (dk_at dksX0_behindEnds_2 4 rfl rfl)
theorem dX0_behindEnds_53 : decode cX0_behindEnds 53 = .ok (.getfield 507, 3) := dk_180 1 251 (dk_at dksX0_behindEnds_2 5 rfl rfl)
theorem dX0_behindEnds_56 : decode cX0_behindEnds 56 = .ok (.iconst 1, 1) := dk_4 (dk_at dksX0_behindEnds_2 8 rfl rfl)
theorem dX0_behindEnds_57 : decode cX0_behindEnds 57 = .ok (.isub, 1) := dk_100 (dk_at dksX0_behindEnds_2 9 rfl rfl)
theorem dX0_behindEnds_58 : decode cX0_behindEnds 58 = .ok (.putfield 507, 3) := dk_181 1 251 (dk_at dksX0_behindEnds_2 10 rfl rfl)
theorem dX0_behindEnds_61 : decode cX0_behindEnds 61 = .ok (.aload_n 3, 1) := dk_45 (dk_at dksX0_behindEnds_2 13 rfl rfl)
theorem dX0_behindEnds_62 : decode cX0_behindEnds 62 = .ok (.getfield 507, 3) := dk_180 1 251 (dk_at dksX0_behindEnds_2 14 rfl rfl)
theorem dX0_behindEnds_65 : decode cX0_behindEnds 65 = .ok (.ifCond .le 7, 3) := dk_158 0 7 (dk_at dksX0_behindEnds_2 17 rfl rfl)
theorem dX0_behindEnds_68 : decode cX0_behindEnds 68 = .ok (.iconst 1, 1) := dk_4 (dk_at dksX0_behindEnds_2 20 rfl rfl)
theorem dX0_behindEnds_69 : decode cX0_behindEnds 69 = .ok (.goto 4, 3) := dk_167 0 4 (dk_at dksX0_behindEnds_2 21 rfl rfl)
theorem dX0_behindEnds_72 : decode cX0_behindEnds 72 = .ok (.iconst 0, 1) := dk_3 (dk_at dksX0_behindEnds_3 0 rfl rfl)
theorem dX0_behindEnds_73 : decode cX0_behindEnds 73 = .ok (.istore 4, 2) := dk_54 4 (dk_at dksX0_behindEnds_3 1 rfl rfl)
theorem dX0_behindEnds_75 : decode cX0_behindEnds 75 = .ok (.iload 4, 2) := dk_21 4 (dk_at dksX0_behindEnds_3 3 rfl rfl)
theorem dX0_behindEnds_77 : decode cX0_behindEnds 77 = .ok (.ifCond .eq 17, 3) := dk_153 0 17 (dk_at dksX0_behindEnds_3 5 rfl rfl)
theorem dX0_behindEnds_80 : decode cX0_behindEnds 80 = .ok (.aload_n 0, 1) := dk_42 (dk_at dksX0_behindEnds_3 8 rfl rfl)
theorem dX0_behindEnds_81 : decode cX0_behindEnds 81 = .ok (.getfield 196, 3) := dk_180 0 196 (dk_at dksX0_behindEnds_3 9 rfl rfl)
theorem dX0_behindEnds_84 : decode cX0_behindEnds 84 = .ok (.iload_n 2, 1) := dk_28 (dk_at dksX0_behindEnds_3 12 rfl rfl)
theorem dX0_behindEnds_85 : decode cX0_behindEnds 85 = .ok (.aaload, 1) := dk_50 (dk_at dksX0_behindEnds_3 13 rfl rfl)
theorem dX0_behindEnds_86 : decode cX0_behindEnds 86 = .ok (.getfield 516, 3) := dk_180 2 4 (dk_at dksX0_behindEnds_3 14 rfl rfl)
theorem dX0_behindEnds_89 : decode cX0_behindEnds 89 = .ok (.iconst 1, 1) := dk_4 (dk_at dksX0_behindEnds_3 17 rfl rfl)
theorem dX0_behindEnds_90 : decode cX0_behindEnds 90 = .ok (.iadd, 1) := dk_96 (dk_at dksX0_behindEnds_3 18 rfl rfl)
theorem dX0_behindEnds_91 : decode cX0_behindEnds 91 = .ok (.goto 6, 3) := dk_167 0 6 (dk_at dksX0_behindEnds_3 19 rfl rfl)
theorem dX0_behindEnds_94 : decode cX0_behindEnds 94 = .ok (.iload_n 2, 1) := dk_28 (dk_at dksX0_behindEnds_3 22 rfl rfl)
theorem dX0_behindEnds_95 : decode cX0_behindEnds 95 = .ok (.iconst 1, 1) := dk_4 (dk_at dksX0_behindEnds_3 23 rfl rfl)
theorem dX0_behindEnds_96 : decode cX0_behindEnds 96 = .ok (.iadd, 1) := dk_96 (dk_at dksX0_behindEnds_4 0 rfl rfl)
theorem dX0_behindEnds_97 : decode cX0_behindEnds 97 = .ok (.istore_n 2, 1) := dk_61 (dk_at dksX0_behindEnds_4 1 rfl rfl)
theorem dX0_behindEnds_98 : decode cX0_behindEnds 98 = .ok (.goto (-96), 3) := dk_167 255 160 (dk_at dksX0_behindEnds_4 2 rfl rfl)
theorem dX0_behindEnds_101 : decode cX0_behindEnds 101 = .ok (.iload_n 2, 1) := dk_28 (dk_at dksX0_behindEnds_4 5 rfl rfl)
theorem dX0_behindEnds_102 : decode cX0_behindEnds 102 = .ok (.ireturn, 1) := dk_172 (dk_at dksX0_behindEnds_4 6 rfl rfl)
abbrev cX0_lived : ByteArray := prog_1_method_102_code
def yX0_lived : MethodName := ⟨RX0, "lived", "(I)I"⟩
def dkwX0_lived_1 : List UInt8 := [180, 0, 79, 27, 46, 182, 0, 102, 167, 0, 9, 42, 16, 8, 182, 0, 98, 172]
abbrev dktX0_lived_1 : List UInt8 := dkwX0_lived_1 ++ []
def dkwX0_lived_0 : List UInt8 := [27, 155, 0, 8, 27, 7, 164, 0, 9, 42, 8, 182, 0, 98, 172, 42, 180, 2, 22, 153, 0, 16, 42, 42]
abbrev dktX0_lived_0 : List UInt8 := dkwX0_lived_0 ++ dktX0_lived_1
theorem dksX0_lived_0 : cX0_lived.data.toList.drop 0 = dktX0_lived_0 := by decide +kernel
theorem dksX0_lived_1 : cX0_lived.data.toList.drop 24 = dktX0_lived_1 := dk_seg dksX0_lived_0 24 rfl rfl
theorem dX0_lived_0 : decode cX0_lived 0 = .ok (.iload_n 1, 1) := dk_27 (dk_at dksX0_lived_0 0 rfl rfl)
theorem dX0_lived_1 : decode cX0_lived 1 = .ok (.ifCond .lt 8, 3) := dk_155 0 8 (dk_at dksX0_lived_0 1 rfl rfl)
theorem dX0_lived_4 : decode cX0_lived 4 = .ok (.iload_n 1, 1) := dk_27 (dk_at dksX0_lived_0 4 rfl rfl)
theorem dX0_lived_5 : decode cX0_lived 5 = .ok (.iconst 4, 1) := dk_7 (dk_at dksX0_lived_0 5 rfl rfl)
theorem dX0_lived_6 : decode cX0_lived 6 = .ok (.if_icmp .le 9, 3) := dk_164 0 9 (dk_at dksX0_lived_0 6 rfl rfl)
theorem dX0_lived_9 : decode cX0_lived 9 = .ok (.aload_n 0, 1) := dk_42 (dk_at dksX0_lived_0 9 rfl rfl)
theorem dX0_lived_10 : decode cX0_lived 10 = .ok (.iconst 5, 1) := dk_8 (dk_at dksX0_lived_0 10 rfl rfl)
theorem dX0_lived_11 : decode cX0_lived 11 = .ok (.invokevirtual 98, 3) := dk_182 0 98 (dk_at dksX0_lived_0 11 rfl rfl)
theorem dX0_lived_14 : decode cX0_lived 14 = .ok (.ireturn, 1) := dk_172 (dk_at dksX0_lived_0 14 rfl rfl)
theorem dX0_lived_15 : decode cX0_lived 15 = .ok (.aload_n 0, 1) := dk_42 (dk_at dksX0_lived_0 15 rfl rfl)
theorem dX0_lived_16 : decode cX0_lived 16 = .ok (.getfield 534, 3) := dk_180 2 22 (dk_at dksX0_lived_0 16 rfl rfl)
theorem dX0_lived_19 : decode cX0_lived 19 = .ok (.ifCond .eq 16, 3) := dk_153 0 16 (dk_at dksX0_lived_0 19 rfl rfl)
theorem dX0_lived_22 : decode cX0_lived 22 = .ok (.aload_n 0, 1) := dk_42 (dk_at dksX0_lived_0 22 rfl rfl)
theorem dX0_lived_23 : decode cX0_lived 23 = .ok (.aload_n 0, 1) := dk_42 (dk_at dksX0_lived_0 23 rfl rfl)
theorem dX0_lived_24 : decode cX0_lived 24 = .ok (.getfield 79, 3) := dk_180 0 79 (dk_at dksX0_lived_1 0 rfl rfl)
theorem dX0_lived_27 : decode cX0_lived 27 = .ok (.iload_n 1, 1) := dk_27 (dk_at dksX0_lived_1 3 rfl rfl)
theorem dX0_lived_28 : decode cX0_lived 28 = .ok (.iaload, 1) := dk_46 (dk_at dksX0_lived_1 4 rfl rfl)
theorem dX0_lived_29 : decode cX0_lived 29 = .ok (.invokevirtual 102, 3) := dk_182 0 102 (dk_at dksX0_lived_1 5 rfl rfl)
theorem dX0_lived_32 : decode cX0_lived 32 = .ok (.goto 9, 3) := dk_167 0 9 (dk_at dksX0_lived_1 8 rfl rfl)
theorem dX0_lived_35 : decode cX0_lived 35 = .ok (.aload_n 0, 1) := dk_42 (dk_at dksX0_lived_1 11 rfl rfl)
theorem dX0_lived_36 : decode cX0_lived 36 = .ok (.bipush 8, 2) := dk_16 8 (dk_at dksX0_lived_1 12 rfl rfl)
theorem dX0_lived_38 : decode cX0_lived 38 = .ok (.invokevirtual 98, 3) := dk_182 0 98 (dk_at dksX0_lived_1 14 rfl rfl)
theorem dX0_lived_41 : decode cX0_lived 41 = .ok (.ireturn, 1) := dk_172 (dk_at dksX0_lived_1 17 rfl rfl)
abbrev cX0_mean : ByteArray := prog_1_method_103_code
def yX0_mean : MethodName := ⟨RX0, "mean", "(II)Z"⟩
def dkwX0_mean_5 : List UInt8 := [181, 0, 38, 42, 22, 4, 28, 133, 182, 1, 215, 172]
abbrev dktX0_mean_5 : List UInt8 := dkwX0_mean_5 ++ []
def dkwX0_mean_4 : List UInt8 := [182, 2, 19, 22, 4, 42, 180, 0, 38, 182, 0, 239, 133, 97, 55, 4, 132, 6, 1, 167, 255, 217, 42, 45]
abbrev dktX0_mean_4 : List UInt8 := dkwX0_mean_4 ++ dktX0_mean_5
def dkwX0_mean_3 : List UInt8 := [54, 6, 21, 6, 28, 162, 0, 39, 42, 180, 0, 38, 45, 182, 2, 25, 87, 42, 27, 21, 6, 96]
abbrev dktX0_mean_3 : List UInt8 := dkwX0_mean_3 ++ dktX0_mean_4
def dkwX0_mean_2 : List UInt8 := [42, 16, 8, 182, 0, 105, 172, 42, 180, 0, 38, 78, 9, 55, 4, 42, 45, 182, 1, 84, 181, 0, 38, 3]
abbrev dktX0_mean_2 : List UInt8 := dkwX0_mean_2 ++ dktX0_mean_3
def dkwX0_mean_1 : List UInt8 := [27, 28, 96, 4, 100, 17, 39, 15, 164, 0, 9, 42, 8, 182, 0, 105, 172, 42, 180, 0, 196, 199, 0, 10]
abbrev dktX0_mean_1 : List UInt8 := dkwX0_mean_1 ++ dktX0_mean_2
def dkwX0_mean_0 : List UInt8 := [27, 133, 9, 20, 1, 142, 184, 0, 162, 153, 0, 26, 28, 133, 10, 20, 1, 114, 184, 0, 162, 153, 0, 14]
abbrev dktX0_mean_0 : List UInt8 := dkwX0_mean_0 ++ dktX0_mean_1
theorem dksX0_mean_0 : cX0_mean.data.toList.drop 0 = dktX0_mean_0 := by decide +kernel
theorem dksX0_mean_1 : cX0_mean.data.toList.drop 24 = dktX0_mean_1 := dk_seg dksX0_mean_0 24 rfl rfl
theorem dksX0_mean_2 : cX0_mean.data.toList.drop 48 = dktX0_mean_2 := dk_seg dksX0_mean_1 24 rfl rfl
theorem dksX0_mean_3 : cX0_mean.data.toList.drop 72 = dktX0_mean_3 := dk_seg dksX0_mean_2 24 rfl rfl
theorem dksX0_mean_4 : cX0_mean.data.toList.drop 94 = dktX0_mean_4 := dk_seg dksX0_mean_3 22 rfl rfl
theorem dksX0_mean_5 : cX0_mean.data.toList.drop 118 = dktX0_mean_5 := dk_seg dksX0_mean_4 24 rfl rfl
theorem dX0_mean_0 : decode cX0_mean 0 = .ok (.iload_n 1, 1) := dk_27 (dk_at dksX0_mean_0 0 rfl rfl)
theorem dX0_mean_1 : decode cX0_mean 1 = .ok (.i2l, 1) := dk_133 (dk_at dksX0_mean_0 1 rfl rfl)
theorem dX0_mean_2 : decode cX0_mean 2 = .ok (.lconst 0, 1) := dk_9 (dk_at dksX0_mean_0 2 rfl rfl)
theorem dX0_mean_3 : decode cX0_mean 3 = .ok (.ldc2_w 398, 3) := dk_20 1 142 (dk_at dksX0_mean_0 3 rfl rfl)
theorem dX0_mean_6 : decode cX0_mean 6 = .ok (.invokestatic 162, 3) := dk_184 0 162 (dk_at dksX0_mean_0 6 rfl rfl)
theorem dX0_mean_9 : decode cX0_mean 9 = .ok (.ifCond .eq 26, 3) := dk_153 0 26 (dk_at dksX0_mean_0 9 rfl rfl)
theorem dX0_mean_12 : decode cX0_mean 12 = .ok (.iload_n 2, 1) := dk_28 (dk_at dksX0_mean_0 12 rfl rfl)
theorem dX0_mean_13 : decode cX0_mean 13 = .ok (.i2l, 1) := dk_133 (dk_at dksX0_mean_0 13 rfl rfl)
theorem dX0_mean_14 : decode cX0_mean 14 = .ok (.lconst 1, 1) := dk_10 (dk_at dksX0_mean_0 14 rfl rfl)
theorem dX0_mean_15 : decode cX0_mean 15 = .ok (.ldc2_w 370, 3) := dk_20 1 114 (dk_at dksX0_mean_0 15 rfl rfl)
theorem dX0_mean_18 : decode cX0_mean 18 = .ok (.invokestatic 162, 3) := dk_184 0 162 (dk_at dksX0_mean_0 18 rfl rfl)
theorem dX0_mean_21 : decode cX0_mean 21 = .ok (.ifCond .eq 14, 3) := dk_153 0 14 (dk_at dksX0_mean_0 21 rfl rfl)
theorem dX0_mean_24 : decode cX0_mean 24 = .ok (.iload_n 1, 1) := dk_27 (dk_at dksX0_mean_1 0 rfl rfl)
theorem dX0_mean_25 : decode cX0_mean 25 = .ok (.iload_n 2, 1) := dk_28 (dk_at dksX0_mean_1 1 rfl rfl)
theorem dX0_mean_26 : decode cX0_mean 26 = .ok (.iadd, 1) := dk_96 (dk_at dksX0_mean_1 2 rfl rfl)
theorem dX0_mean_27 : decode cX0_mean 27 = .ok (.iconst 1, 1) := dk_4 (dk_at dksX0_mean_1 3 rfl rfl)
theorem dX0_mean_28 : decode cX0_mean 28 = .ok (.isub, 1) := dk_100 (dk_at dksX0_mean_1 4 rfl rfl)
theorem dX0_mean_29 : decode cX0_mean 29 = .ok (.sipush 9999, 3) := dk_17 39 15 (dk_at dksX0_mean_1 5 rfl rfl)
theorem dX0_mean_32 : decode cX0_mean 32 = .ok (.if_icmp .le 9, 3) := dk_164 0 9 (dk_at dksX0_mean_1 8 rfl rfl)
theorem dX0_mean_35 : decode cX0_mean 35 = .ok (.aload_n 0, 1) := dk_42 (dk_at dksX0_mean_1 11 rfl rfl)
theorem dX0_mean_36 : decode cX0_mean 36 = .ok (.iconst 5, 1) := dk_8 (dk_at dksX0_mean_1 12 rfl rfl)
theorem dX0_mean_37 : decode cX0_mean 37 = .ok (.invokevirtual 105, 3) := dk_182 0 105 (dk_at dksX0_mean_1 13 rfl rfl)
theorem dX0_mean_40 : decode cX0_mean 40 = .ok (.ireturn, 1) := dk_172 (dk_at dksX0_mean_1 16 rfl rfl)
theorem dX0_mean_41 : decode cX0_mean 41 = .ok (.aload_n 0, 1) := dk_42 (dk_at dksX0_mean_1 17 rfl rfl)
theorem dX0_mean_42 : decode cX0_mean 42 = .ok (.getfield 196, 3) := dk_180 0 196 (dk_at dksX0_mean_1 18 rfl rfl)
theorem dX0_mean_45 : decode cX0_mean 45 = .ok (.ifnonnull 10, 3) := dk_199 0 10 (dk_at dksX0_mean_1 21 rfl rfl)
theorem dX0_mean_48 : decode cX0_mean 48 = .ok (.aload_n 0, 1) := dk_42 (dk_at dksX0_mean_2 0 rfl rfl)
theorem dX0_mean_49 : decode cX0_mean 49 = .ok (.bipush 8, 2) := dk_16 8 (dk_at dksX0_mean_2 1 rfl rfl)
theorem dX0_mean_51 : decode cX0_mean 51 = .ok (.invokevirtual 105, 3) := dk_182 0 105 (dk_at dksX0_mean_2 3 rfl rfl)
theorem dX0_mean_54 : decode cX0_mean 54 = .ok (.ireturn, 1) := dk_172 (dk_at dksX0_mean_2 6 rfl rfl)
theorem dX0_mean_55 : decode cX0_mean 55 = .ok (.aload_n 0, 1) := dk_42 (dk_at dksX0_mean_2 7 rfl rfl)
theorem dX0_mean_56 : decode cX0_mean 56 = .ok (.getfield 38, 3) := dk_180 0 38 (dk_at dksX0_mean_2 8 rfl rfl)
theorem dX0_mean_59 : decode cX0_mean 59 = .ok (.astore_n 3, 1) := dk_78 (dk_at dksX0_mean_2 11 rfl rfl)
theorem dX0_mean_60 : decode cX0_mean 60 = .ok (.lconst 0, 1) := dk_9 (dk_at dksX0_mean_2 12 rfl rfl)
theorem dX0_mean_61 : decode cX0_mean 61 = .ok (.lstore 4, 2) := dk_55 4 (dk_at dksX0_mean_2 13 rfl rfl)
theorem dX0_mean_63 : decode cX0_mean 63 = .ok (.aload_n 0, 1) := dk_42 (dk_at dksX0_mean_2 15 rfl rfl)
theorem dX0_mean_64 : decode cX0_mean 64 = .ok (.aload_n 3, 1) := dk_45 (dk_at dksX0_mean_2 16 rfl rfl)
theorem dX0_mean_65 : decode cX0_mean 65 = .ok (.invokevirtual 340, 3) := dk_182 1 84 (dk_at dksX0_mean_2 17 rfl rfl)
theorem dX0_mean_68 : decode cX0_mean 68 = .ok (.putfield 38, 3) := dk_181 0 38 (dk_at dksX0_mean_2 20 rfl rfl)
theorem dX0_mean_71 : decode cX0_mean 71 = .ok (.iconst 0, 1) := dk_3 (dk_at dksX0_mean_2 23 rfl rfl)
theorem dX0_mean_72 : decode cX0_mean 72 = .ok (.istore 6, 2) := dk_54 6 (dk_at dksX0_mean_3 0 rfl rfl)
theorem dX0_mean_74 : decode cX0_mean 74 = .ok (.iload 6, 2) := dk_21 6 (dk_at dksX0_mean_3 2 rfl rfl)
theorem dX0_mean_76 : decode cX0_mean 76 = .ok (.iload_n 2, 1) := dk_28 (dk_at dksX0_mean_3 4 rfl rfl)
theorem dX0_mean_77 : decode cX0_mean 77 = .ok (.if_icmp .ge 39, 3) := dk_162 0 39 (dk_at dksX0_mean_3 5 rfl rfl)
theorem dX0_mean_80 : decode cX0_mean 80 = .ok (.aload_n 0, 1) := dk_42 (dk_at dksX0_mean_3 8 rfl rfl)
theorem dX0_mean_81 : decode cX0_mean 81 = .ok (.getfield 38, 3) := dk_180 0 38 (dk_at dksX0_mean_3 9 rfl rfl)
theorem dX0_mean_84 : decode cX0_mean 84 = .ok (.aload_n 3, 1) := dk_45 (dk_at dksX0_mean_3 12 rfl rfl)
theorem dX0_mean_85 : decode cX0_mean 85 = .ok (.invokevirtual 537, 3) := dk_182 2 25 (dk_at dksX0_mean_3 13 rfl rfl)
theorem dX0_mean_88 : decode cX0_mean 88 = .ok (.pop, 1) := dk_87 (dk_at dksX0_mean_3 16 rfl rfl)
theorem dX0_mean_89 : decode cX0_mean 89 = .ok (.aload_n 0, 1) := dk_42 (dk_at dksX0_mean_3 17 rfl rfl)
theorem dX0_mean_90 : decode cX0_mean 90 = .ok (.iload_n 1, 1) := dk_27 (dk_at dksX0_mean_3 18 rfl rfl)
theorem dX0_mean_91 : decode cX0_mean 91 = .ok (.iload 6, 2) := dk_21 6 (dk_at dksX0_mean_3 19 rfl rfl)
theorem dX0_mean_93 : decode cX0_mean 93 = .ok (.iadd, 1) := dk_96 (dk_at dksX0_mean_3 21 rfl rfl)
theorem dX0_mean_94 : decode cX0_mean 94 = .ok (.invokevirtual 531, 3) := dk_182 2 19 (dk_at dksX0_mean_4 0 rfl rfl)
theorem dX0_mean_97 : decode cX0_mean 97 = .ok (.lload 4, 2) := dk_22 4 (dk_at dksX0_mean_4 3 rfl rfl)
theorem dX0_mean_99 : decode cX0_mean 99 = .ok (.aload_n 0, 1) := dk_42 (dk_at dksX0_mean_4 5 rfl rfl)
theorem dX0_mean_100 : decode cX0_mean 100 = .ok (.getfield 38, 3) := dk_180 0 38 (dk_at dksX0_mean_4 6 rfl rfl)
theorem dX0_mean_103 : decode cX0_mean 103 = .ok (.invokevirtual 239, 3) := dk_182 0 239 (dk_at dksX0_mean_4 9 rfl rfl)
theorem dX0_mean_106 : decode cX0_mean 106 = .ok (.i2l, 1) := dk_133 (dk_at dksX0_mean_4 12 rfl rfl)
theorem dX0_mean_107 : decode cX0_mean 107 = .ok (.ladd, 1) := dk_97 (dk_at dksX0_mean_4 13 rfl rfl)
theorem dX0_mean_108 : decode cX0_mean 108 = .ok (.lstore 4, 2) := dk_55 4 (dk_at dksX0_mean_4 14 rfl rfl)
theorem dX0_mean_110 : decode cX0_mean 110 = .ok (.iinc 6 1, 3) := dk_132 6 1 (dk_at dksX0_mean_4 16 rfl rfl)
theorem dX0_mean_113 : decode cX0_mean 113 = .ok (.goto (-39), 3) := dk_167 255 217 (dk_at dksX0_mean_4 19 rfl rfl)
theorem dX0_mean_116 : decode cX0_mean 116 = .ok (.aload_n 0, 1) := dk_42 (dk_at dksX0_mean_4 22 rfl rfl)
theorem dX0_mean_117 : decode cX0_mean 117 = .ok (.aload_n 3, 1) := dk_45 (dk_at dksX0_mean_4 23 rfl rfl)
theorem dX0_mean_118 : decode cX0_mean 118 = .ok (.putfield 38, 3) := dk_181 0 38 (dk_at dksX0_mean_5 0 rfl rfl)
theorem dX0_mean_121 : decode cX0_mean 121 = .ok (.aload_n 0, 1) := dk_42 (dk_at dksX0_mean_5 3 rfl rfl)
theorem dX0_mean_122 : decode cX0_mean 122 = .ok (.lload 4, 2) := dk_22 4 (dk_at dksX0_mean_5 4 rfl rfl)
theorem dX0_mean_124 : decode cX0_mean 124 = .ok (.iload_n 2, 1) := dk_28 (dk_at dksX0_mean_5 6 rfl rfl)
theorem dX0_mean_125 : decode cX0_mean 125 = .ok (.i2l, 1) := dk_133 (dk_at dksX0_mean_5 7 rfl rfl)
theorem dX0_mean_126 : decode cX0_mean 126 = .ok (.invokevirtual 471, 3) := dk_182 1 215 (dk_at dksX0_mean_5 8 rfl rfl)
theorem dX0_mean_129 : decode cX0_mean 129 = .ok (.ireturn, 1) := dk_172 (dk_at dksX0_mean_5 11 rfl rfl)
abbrev cX0_mark : ByteArray := prog_1_method_104_code
def yX0_mark : MethodName := ⟨RX0, "mark", "()I"⟩
def dkwX0_mark_2 : List UInt8 := [89, 180, 2, 28, 4, 96, 181, 2, 28, 42, 42, 180, 2, 28, 182, 0, 102, 172]
abbrev dktX0_mark_2 : List UInt8 := dkwX0_mark_2 ++ []
def dkwX0_mark_1 : List UInt8 := [187, 0, 82, 89, 42, 180, 0, 38, 182, 1, 84, 42, 180, 0, 196, 42, 180, 0, 200, 183, 2, 31, 83, 42]
abbrev dktX0_mark_1 : List UInt8 := dkwX0_mark_1 ++ dktX0_mark_2
def dkwX0_mark_0 : List UInt8 := [42, 180, 2, 28, 6, 160, 0, 10, 42, 16, 7, 182, 0, 98, 172, 42, 180, 0, 84, 42, 180, 2, 28]
abbrev dktX0_mark_0 : List UInt8 := dkwX0_mark_0 ++ dktX0_mark_1
theorem dksX0_mark_0 : cX0_mark.data.toList.drop 0 = dktX0_mark_0 := by decide +kernel
theorem dksX0_mark_1 : cX0_mark.data.toList.drop 23 = dktX0_mark_1 := dk_seg dksX0_mark_0 23 rfl rfl
theorem dksX0_mark_2 : cX0_mark.data.toList.drop 47 = dktX0_mark_2 := dk_seg dksX0_mark_1 24 rfl rfl
theorem dX0_mark_0 : decode cX0_mark 0 = .ok (.aload_n 0, 1) := dk_42 (dk_at dksX0_mark_0 0 rfl rfl)
theorem dX0_mark_1 : decode cX0_mark 1 = .ok (.getfield 540, 3) := dk_180 2 28 (dk_at dksX0_mark_0 1 rfl rfl)
theorem dX0_mark_4 : decode cX0_mark 4 = .ok (.iconst 3, 1) := dk_6 (dk_at dksX0_mark_0 4 rfl rfl)
theorem dX0_mark_5 : decode cX0_mark 5 = .ok (.if_icmp .ne 10, 3) := dk_160 0 10 (dk_at dksX0_mark_0 5 rfl rfl)
theorem dX0_mark_8 : decode cX0_mark 8 = .ok (.aload_n 0, 1) := dk_42 (dk_at dksX0_mark_0 8 rfl rfl)
theorem dX0_mark_9 : decode cX0_mark 9 = .ok (.bipush 7, 2) := dk_16 7 (dk_at dksX0_mark_0 9 rfl rfl)
theorem dX0_mark_11 : decode cX0_mark 11 = .ok (.invokevirtual 98, 3) := dk_182 0 98 (dk_at dksX0_mark_0 11 rfl rfl)
theorem dX0_mark_14 : decode cX0_mark 14 = .ok (.ireturn, 1) := dk_172 (dk_at dksX0_mark_0 14 rfl rfl)
theorem dX0_mark_15 : decode cX0_mark 15 = .ok (.aload_n 0, 1) := dk_42 (dk_at dksX0_mark_0 15 rfl rfl)
theorem dX0_mark_16 : decode cX0_mark 16 = .ok (.getfield 84, 3) := dk_180 0 84 (dk_at dksX0_mark_0 16 rfl rfl)
theorem dX0_mark_19 : decode cX0_mark 19 = .ok (.aload_n 0, 1) := dk_42 (dk_at dksX0_mark_0 19 rfl rfl)
theorem dX0_mark_20 : decode cX0_mark 20 = .ok (.getfield 540, 3) := dk_180 2 28 (dk_at dksX0_mark_0 20 rfl rfl)
theorem dX0_mark_23 : decode cX0_mark 23 = .ok (.new 82, 3) := dk_187 0 82 (dk_at dksX0_mark_1 0 rfl rfl)
theorem dX0_mark_26 : decode cX0_mark 26 = .ok (.dup, 1) := dk_89 (dk_at dksX0_mark_1 3 rfl rfl)
theorem dX0_mark_27 : decode cX0_mark 27 = .ok (.aload_n 0, 1) := dk_42 (dk_at dksX0_mark_1 4 rfl rfl)
theorem dX0_mark_28 : decode cX0_mark 28 = .ok (.getfield 38, 3) := dk_180 0 38 (dk_at dksX0_mark_1 5 rfl rfl)
theorem dX0_mark_31 : decode cX0_mark 31 = .ok (.invokevirtual 340, 3) := dk_182 1 84 (dk_at dksX0_mark_1 8 rfl rfl)
theorem dX0_mark_34 : decode cX0_mark 34 = .ok (.aload_n 0, 1) := dk_42 (dk_at dksX0_mark_1 11 rfl rfl)
theorem dX0_mark_35 : decode cX0_mark 35 = .ok (.getfield 196, 3) := dk_180 0 196 (dk_at dksX0_mark_1 12 rfl rfl)
theorem dX0_mark_38 : decode cX0_mark 38 = .ok (.aload_n 0, 1) := dk_42 (dk_at dksX0_mark_1 15 rfl rfl)
theorem dX0_mark_39 : decode cX0_mark 39 = .ok (.getfield 200, 3) := dk_180 0 200 (dk_at dksX0_mark_1 16 rfl rfl)
theorem dX0_mark_42 : decode cX0_mark 42 = .ok (.invokespecial 543, 3) := dk_183 2 31 (dk_at dksX0_mark_1 19 rfl rfl)
theorem dX0_mark_45 : decode cX0_mark 45 = .ok (.aastore, 1) := dk_83 (dk_at dksX0_mark_1 22 rfl rfl)
theorem dX0_mark_46 : decode cX0_mark 46 = .ok (.aload_n 0, 1) := dk_42 (dk_at dksX0_mark_1 23 rfl rfl)
theorem dX0_mark_47 : decode cX0_mark 47 = .ok (.dup, 1) := dk_89 (dk_at dksX0_mark_2 0 rfl rfl)
theorem dX0_mark_48 : decode cX0_mark 48 = .ok (.getfield 540, 3) := dk_180 2 28 (dk_at dksX0_mark_2 1 rfl rfl)
theorem dX0_mark_51 : decode cX0_mark 51 = .ok (.iconst 1, 1) := dk_4 (dk_at dksX0_mark_2 4 rfl rfl)
theorem dX0_mark_52 : decode cX0_mark 52 = .ok (.iadd, 1) := dk_96 (dk_at dksX0_mark_2 5 rfl rfl)
theorem dX0_mark_53 : decode cX0_mark 53 = .ok (.putfield 540, 3) := dk_181 2 28 (dk_at dksX0_mark_2 6 rfl rfl)
theorem dX0_mark_56 : decode cX0_mark 56 = .ok (.aload_n 0, 1) := dk_42 (dk_at dksX0_mark_2 9 rfl rfl)
theorem dX0_mark_57 : decode cX0_mark 57 = .ok (.aload_n 0, 1) := dk_42 (dk_at dksX0_mark_2 10 rfl rfl)
theorem dX0_mark_58 : decode cX0_mark 58 = .ok (.getfield 540, 3) := dk_180 2 28 (dk_at dksX0_mark_2 11 rfl rfl)
theorem dX0_mark_61 : decode cX0_mark 61 = .ok (.invokevirtual 102, 3) := dk_182 0 102 (dk_at dksX0_mark_2 14 rfl rfl)
theorem dX0_mark_64 : decode cX0_mark 64 = .ok (.ireturn, 1) := dk_172 (dk_at dksX0_mark_2 17 rfl rfl)
abbrev cX0_back : ByteArray := prog_1_method_105_code
def yX0_back : MethodName := ⟨RX0, "back", "()I"⟩
def dkwX0_back_2 : List UInt8 := [181, 0, 196, 42, 43, 180, 2, 36, 181, 0, 200, 42, 42, 180, 2, 28, 182, 0, 102, 172]
abbrev dktX0_back_2 : List UInt8 := dkwX0_back_2 ++ []
def dkwX0_back_1 : List UInt8 := [42, 180, 0, 84, 42, 180, 2, 28, 50, 76, 42, 43, 180, 2, 34, 181, 0, 38, 42, 43, 180, 2, 35]
abbrev dktX0_back_1 : List UInt8 := dkwX0_back_1 ++ dktX0_back_2
def dkwX0_back_0 : List UInt8 := [42, 180, 2, 28, 154, 0, 10, 42, 16, 8, 182, 0, 98, 172, 42, 89, 180, 2, 28, 4, 100, 181, 2, 28]
abbrev dktX0_back_0 : List UInt8 := dkwX0_back_0 ++ dktX0_back_1
theorem dksX0_back_0 : cX0_back.data.toList.drop 0 = dktX0_back_0 := by decide +kernel
theorem dksX0_back_1 : cX0_back.data.toList.drop 24 = dktX0_back_1 := dk_seg dksX0_back_0 24 rfl rfl
theorem dksX0_back_2 : cX0_back.data.toList.drop 47 = dktX0_back_2 := dk_seg dksX0_back_1 23 rfl rfl
theorem dX0_back_0 : decode cX0_back 0 = .ok (.aload_n 0, 1) := dk_42 (dk_at dksX0_back_0 0 rfl rfl)
theorem dX0_back_1 : decode cX0_back 1 = .ok (.getfield 540, 3) := dk_180 2 28 (dk_at dksX0_back_0 1 rfl rfl)
theorem dX0_back_4 : decode cX0_back 4 = .ok (.ifCond .ne 10, 3) := dk_154 0 10 (dk_at dksX0_back_0 4 rfl rfl)
theorem dX0_back_7 : decode cX0_back 7 = .ok (.aload_n 0, 1) := dk_42 (dk_at dksX0_back_0 7 rfl rfl)
theorem dX0_back_8 : decode cX0_back 8 = .ok (.bipush 8, 2) := dk_16 8 (dk_at dksX0_back_0 8 rfl rfl)
theorem dX0_back_10 : decode cX0_back 10 = .ok (.invokevirtual 98, 3) := dk_182 0 98 (dk_at dksX0_back_0 10 rfl rfl)
theorem dX0_back_13 : decode cX0_back 13 = .ok (.ireturn, 1) := dk_172 (dk_at dksX0_back_0 13 rfl rfl)
theorem dX0_back_14 : decode cX0_back 14 = .ok (.aload_n 0, 1) := dk_42 (dk_at dksX0_back_0 14 rfl rfl)
theorem dX0_back_15 : decode cX0_back 15 = .ok (.dup, 1) := dk_89 (dk_at dksX0_back_0 15 rfl rfl)
theorem dX0_back_16 : decode cX0_back 16 = .ok (.getfield 540, 3) := dk_180 2 28 (dk_at dksX0_back_0 16 rfl rfl)
theorem dX0_back_19 : decode cX0_back 19 = .ok (.iconst 1, 1) := dk_4 (dk_at dksX0_back_0 19 rfl rfl)
theorem dX0_back_20 : decode cX0_back 20 = .ok (.isub, 1) := dk_100 (dk_at dksX0_back_0 20 rfl rfl)
theorem dX0_back_21 : decode cX0_back 21 = .ok (.putfield 540, 3) := dk_181 2 28 (dk_at dksX0_back_0 21 rfl rfl)
theorem dX0_back_24 : decode cX0_back 24 = .ok (.aload_n 0, 1) := dk_42 (dk_at dksX0_back_1 0 rfl rfl)
theorem dX0_back_25 : decode cX0_back 25 = .ok (.getfield 84, 3) := dk_180 0 84 (dk_at dksX0_back_1 1 rfl rfl)
theorem dX0_back_28 : decode cX0_back 28 = .ok (.aload_n 0, 1) := dk_42 (dk_at dksX0_back_1 4 rfl rfl)
theorem dX0_back_29 : decode cX0_back 29 = .ok (.getfield 540, 3) := dk_180 2 28 (dk_at dksX0_back_1 5 rfl rfl)
theorem dX0_back_32 : decode cX0_back 32 = .ok (.aaload, 1) := dk_50 (dk_at dksX0_back_1 8 rfl rfl)
theorem dX0_back_33 : decode cX0_back 33 = .ok (.astore_n 1, 1) := dk_76 (dk_at dksX0_back_1 9 rfl rfl)
theorem dX0_back_34 : decode cX0_back 34 = .ok (.aload_n 0, 1) := dk_42 (dk_at dksX0_back_1 10 rfl rfl)
theorem dX0_back_35 : decode cX0_back 35 = .ok (.aload_n 1, 1) := dk_43 (dk_at dksX0_back_1 11 rfl rfl)
theorem dX0_back_36 : decode cX0_back 36 = .ok (.getfield 546, 3) := dk_180 2 34 (dk_at dksX0_back_1 12 rfl rfl)
theorem dX0_back_39 : decode cX0_back 39 = .ok (.putfield 38, 3) := dk_181 0 38 (dk_at dksX0_back_1 15 rfl rfl)
theorem dX0_back_42 : decode cX0_back 42 = .ok (.aload_n 0, 1) := dk_42 (dk_at dksX0_back_1 18 rfl rfl)
theorem dX0_back_43 : decode cX0_back 43 = .ok (.aload_n 1, 1) := dk_43 (dk_at dksX0_back_1 19 rfl rfl)
theorem dX0_back_44 : decode cX0_back 44 = .ok (.getfield 547, 3) := dk_180 2 35 (dk_at dksX0_back_1 20 rfl rfl)
theorem dX0_back_47 : decode cX0_back 47 = .ok (.putfield 196, 3) := dk_181 0 196 (dk_at dksX0_back_2 0 rfl rfl)
theorem dX0_back_50 : decode cX0_back 50 = .ok (.aload_n 0, 1) := dk_42 (dk_at dksX0_back_2 3 rfl rfl)
theorem dX0_back_51 : decode cX0_back 51 = .ok (.aload_n 1, 1) := dk_43 (dk_at dksX0_back_2 4 rfl rfl)
theorem dX0_back_52 : decode cX0_back 52 = .ok (.getfield 548, 3) := dk_180 2 36 (dk_at dksX0_back_2 5 rfl rfl)
theorem dX0_back_55 : decode cX0_back 55 = .ok (.putfield 200, 3) := dk_181 0 200 (dk_at dksX0_back_2 8 rfl rfl)
theorem dX0_back_58 : decode cX0_back 58 = .ok (.aload_n 0, 1) := dk_42 (dk_at dksX0_back_2 11 rfl rfl)
theorem dX0_back_59 : decode cX0_back 59 = .ok (.aload_n 0, 1) := dk_42 (dk_at dksX0_back_2 12 rfl rfl)
theorem dX0_back_60 : decode cX0_back 60 = .ok (.getfield 540, 3) := dk_180 2 28 (dk_at dksX0_back_2 13 rfl rfl)
theorem dX0_back_63 : decode cX0_back 63 = .ok (.invokevirtual 102, 3) := dk_182 0 102 (dk_at dksX0_back_2 16 rfl rfl)
theorem dX0_back_66 : decode cX0_back 66 = .ok (.ireturn, 1) := dk_172 (dk_at dksX0_back_2 19 rfl rfl)
theorem q175 : (Jvm.Cond.initialized "HairProvince") ∈ lw_all := lw_g (lw_at lw_m1 1 rfl) rfl
theorem q203 : (Jvm.Cond.instantiable "HairProvince" (25 : Nat)) ∈ lw_all := lw_g (lw_at lw_m1 29 rfl) rfl
theorem q205 : (Jvm.Cond.instanceMethod ({ cls := "HairProvince", name := "<init>", desc := "()V" } : Jvm.MethodName)) ∈ lw_all := lw_g (lw_at lw_m1 31 rfl) rfl
theorem q206 : (Jvm.Cond.code ({ cls := "HairProvince", name := "<init>", desc := "()V" } : Jvm.MethodName) prog_1_method_3_code (2 : Nat) (Option.none : Option Jvm.ClassFile.FieldType)) ∈ lw_all := lw_g (lw_at lw_m1 32 rfl) rfl
theorem q207 : (Jvm.Cond.methodLink "HairProvince" (1 : Nat) ({ cls := "java/lang/Object", name := "<init>", desc := "()V" } : Jvm.MethodName)) ∈ lw_all := lw_g (lw_at lw_m1 33 rfl) rfl
theorem q210 : (Jvm.Cond.classLink "HairProvince" (9 : Nat) "HairProvince$Tray") ∈ lw_all := lw_g (lw_at lw_m1 36 rfl) rfl
theorem q212 : (Jvm.Cond.classLink "HairProvince" (15 : Nat) "HairProvince$Reader") ∈ lw_all := lw_g (lw_at lw_m1 38 rfl) rfl
theorem q214 : (Jvm.Cond.classLink "HairProvince" (17 : Nat) "HairProvince$Wrong") ∈ lw_all := lw_g (lw_at lw_m1 40 rfl) rfl
theorem q269 : (Jvm.Cond.methodLink "HairProvince" (19 : Nat) ({ cls := "HairProvince$Wrong", name := "<init>", desc := "()V" } : Jvm.MethodName)) ∈ lw_all := lw_g (lw_at lw_m1 95 rfl) rfl
theorem q282 : (Jvm.Cond.fieldLinkNest "HairProvince" (179 : Nat) "HairProvince$Wrong" "kind" "I" "HairProvince") ∈ lw_tbl := lw_at lw_m1 108 rfl
theorem q284 : (Jvm.Cond.fieldLinkNest "HairProvince" (182 : Nat) "HairProvince$Wrong" "place" "I" "HairProvince") ∈ lw_tbl := lw_at lw_m1 110 rfl
theorem q302 : (Jvm.Cond.methodLink "HairProvince" (20 : Nat) ({ cls := "HairProvince$Reader", name := "<init>", desc := "(LHairProvince$Wrong;)V" } : Jvm.MethodName)) ∈ lw_all := lw_g (lw_at lw_m1 128 rfl) rfl
theorem q319 : (Jvm.Cond.fieldLinkNest "HairProvince" (168 : Nat) "HairProvince$Reader" "taped" "I" "HairProvince") ∈ lw_tbl := lw_at lw_m1 145 rfl
theorem q321 : (Jvm.Cond.fieldLinkNest "HairProvince" (207 : Nat) "HairProvince$Reader" "stepMany" "I" "HairProvince") ∈ lw_tbl := lw_at lw_m1 147 rfl
theorem q323 : (Jvm.Cond.fieldLinkNest "HairProvince" (208 : Nat) "HairProvince$Reader" "counted" "I" "HairProvince") ∈ lw_tbl := lw_at lw_m1 149 rfl
theorem q331 : (Jvm.Cond.fieldLink "HairProvince" (175 : Nat) "HairProvince$Reader" "tape" "[B") ∈ lw_all := lw_g (lw_at lw_m1 157 rfl) rfl
theorem q383 : (Jvm.Cond.classLink "HairProvince" (27 : Nat) "HairProvince$Trusting") ∈ lw_all := lw_g (lw_at lw_m1 209 rfl) rfl
theorem q385 : (Jvm.Cond.methodLinkNest "HairProvince" (29 : Nat) ({ cls := "HairProvince$Trusting", name := "<init>", desc := "()V" } : Jvm.MethodName) "HairProvince") ∈ lw_tbl := lw_at lw_m1 211 rfl
theorem q390 : (Jvm.Cond.methodLink "HairProvince" (34 : Nat) ({ cls := "HairProvince$Reader", name := "empty", desc := "()LHairProvince$Province;" } : Jvm.MethodName)) ∈ lw_all := lw_g (lw_at lw_m1 216 rfl) rfl
theorem q408 : (Jvm.Cond.fieldLink "HairProvince" (245 : Nat) "HairProvince$Province" "words" "[LHairProvince$Word;") ∈ lw_all := lw_g (lw_at lw_m1 234 rfl) rfl
theorem q411 : (Jvm.Cond.fieldLink "HairProvince" (211 : Nat) "HairProvince$Province" "people" "[LHairProvince$Person;") ∈ lw_all := lw_g (lw_at lw_m1 237 rfl) rfl
theorem q414 : (Jvm.Cond.fieldLink "HairProvince" (291 : Nat) "HairProvince$Province" "dinners" "[LHairProvince$Dinner;") ∈ lw_all := lw_g (lw_at lw_m2 0 rfl) rfl
theorem q418 : (Jvm.Cond.fieldLinkNest "HairProvince" (147 : Nat) "HairProvince$Province" "wordMany" "I" "HairProvince") ∈ lw_tbl := lw_at lw_m2 4 rfl
theorem q421 : (Jvm.Cond.fieldLinkNest "HairProvince" (152 : Nat) "HairProvince$Province" "personMany" "I" "HairProvince") ∈ lw_tbl := lw_at lw_m2 7 rfl
theorem q424 : (Jvm.Cond.fieldLinkNest "HairProvince" (155 : Nat) "HairProvince$Province" "dinnerMany" "I" "HairProvince") ∈ lw_tbl := lw_at lw_m2 10 rfl
theorem q427 : (Jvm.Cond.fieldLinkNest "HairProvince" (218 : Nat) "HairProvince$Province" "halvesMany" "I" "HairProvince") ∈ lw_tbl := lw_at lw_m2 13 rfl
theorem q430 : (Jvm.Cond.fieldLinkNest "HairProvince" (221 : Nat) "HairProvince$Province" "heard" "I" "HairProvince") ∈ lw_tbl := lw_at lw_m2 16 rfl
theorem q433 : (Jvm.Cond.fieldLinkNest "HairProvince" (224 : Nat) "HairProvince$Province" "odds" "I" "HairProvince") ∈ lw_tbl := lw_at lw_m2 19 rfl
theorem q435 : (Jvm.Cond.fieldLinkNest "HairProvince" (227 : Nat) "HairProvince$Province" "day" "I" "HairProvince") ∈ lw_tbl := lw_at lw_m2 21 rfl
theorem q437 : (Jvm.Cond.fieldLinkNest "HairProvince" (233 : Nat) "HairProvince$Province" "said" "I" "HairProvince") ∈ lw_tbl := lw_at lw_m2 23 rfl
theorem q439 : (Jvm.Cond.fieldLinkNest "HairProvince" (236 : Nat) "HairProvince$Province" "cuts" "I" "HairProvince") ∈ lw_tbl := lw_at lw_m2 25 rfl
theorem q467 : (Jvm.Cond.classLink "HairProvince" (67 : Nat) "HairProvince$Person") ∈ lw_all := lw_g (lw_at lw_m2 53 rfl) rfl
theorem q468 : (Jvm.Cond.classLink "HairProvince" (82 : Nat) "HairProvince$Kept") ∈ lw_all := lw_g (lw_at lw_m2 54 rfl) rfl
theorem q471 : (Jvm.Cond.methodLinkNest "HairProvince" (88 : Nat) ({ cls := "HairProvince$Tray", name := "<init>", desc := "()V" } : Jvm.MethodName) "HairProvince") ∈ lw_tbl := lw_at lw_m2 57 rfl
theorem q476 : (Jvm.Cond.fieldLinkNest "HairProvince" (132 : Nat) "HairProvince$Tray" "row" "Ljava/lang/Object;" "HairProvince") ∈ lw_tbl := lw_at lw_m2 62 rfl
theorem q478 : (Jvm.Cond.fieldLinkNest "HairProvince" (136 : Nat) "HairProvince$Tray" "sort" "I" "HairProvince") ∈ lw_tbl := lw_at lw_m2 64 rfl
theorem q486 : (Jvm.Cond.methodLink "HairProvince" (89 : Nat) ({ cls := "HairProvince$Person", name := "<init>", desc := "(J)V" } : Jvm.MethodName)) ∈ lw_all := lw_g (lw_at lw_m2 72 rfl) rfl
theorem q494 : (Jvm.Cond.fieldLink "HairProvince" (282 : Nat) "HairProvince$Person" "length" "[I") ∈ lw_all := lw_g (lw_at lw_m2 80 rfl) rfl
theorem q496 : (Jvm.Cond.fieldLink "HairProvince" (285 : Nat) "HairProvince$Person" "age" "[I") ∈ lw_all := lw_g (lw_at lw_m2 82 rfl) rfl
theorem q500 : (Jvm.Cond.fieldLinkNest "HairProvince" (267 : Nat) "HairProvince$Person" "temper" "I" "HairProvince") ∈ lw_tbl := lw_at lw_m2 86 rfl
theorem q505 : (Jvm.Cond.fieldLinkNest "HairProvince" (270 : Nat) "HairProvince$Person" "knows" "I" "HairProvince") ∈ lw_tbl := lw_at lw_m2 91 rfl
theorem q510 : (Jvm.Cond.fieldLinkNest "HairProvince" (273 : Nat) "HairProvince$Person" "keeps" "I" "HairProvince") ∈ lw_tbl := lw_at lw_m2 96 rfl
theorem q514 : (Jvm.Cond.fieldLinkNest "HairProvince" (214 : Nat) "HairProvince$Person" "barber" "Z" "HairProvince") ∈ lw_tbl := lw_at lw_m2 100 rfl
theorem q530 : (Jvm.Cond.fieldLink "HairProvince" (11 : Nat) "HairProvince" "trays" "[LHairProvince$Tray;") ∈ lw_all := lw_g (lw_at lw_m2 116 rfl) rfl
theorem q531 : (Jvm.Cond.fieldLink "HairProvince" (23 : Nat) "HairProvince" "reader" "LHairProvince$Reader;") ∈ lw_all := lw_g (lw_at lw_m2 117 rfl) rfl
theorem q532 : (Jvm.Cond.fieldLink "HairProvince" (30 : Nat) "HairProvince" "trusting" "LHairProvince$Saying;") ∈ lw_all := lw_g (lw_at lw_m2 118 rfl) rfl
theorem q533 : (Jvm.Cond.fieldLink "HairProvince" (38 : Nat) "HairProvince" "province" "LHairProvince$Province;") ∈ lw_all := lw_g (lw_at lw_m2 119 rfl) rfl
theorem q534 : (Jvm.Cond.fieldLink "HairProvince" (196 : Nat) "HairProvince" "steps" "[LHairProvince$Step;") ∈ lw_all := lw_g (lw_at lw_m2 120 rfl) rfl
theorem q535 : (Jvm.Cond.fieldLink "HairProvince" (200 : Nat) "HairProvince" "stepMany" "I") ∈ lw_all := lw_g (lw_at lw_m2 121 rfl) rfl
theorem q536 : (Jvm.Cond.fieldLink "HairProvince" (92 : Nat) "HairProvince" "status" "I") ∈ lw_all := lw_g (lw_at lw_m2 122 rfl) rfl
theorem q537 : (Jvm.Cond.fieldLink "HairProvince" (42 : Nat) "HairProvince" "faultKind" "I") ∈ lw_all := lw_g (lw_at lw_m2 123 rfl) rfl
theorem q538 : (Jvm.Cond.fieldLink "HairProvince" (46 : Nat) "HairProvince" "faultPlace" "I") ∈ lw_all := lw_g (lw_at lw_m2 124 rfl) rfl
theorem q539 : (Jvm.Cond.fieldLink "HairProvince" (95 : Nat) "HairProvince" "top" "J") ∈ lw_all := lw_g (lw_at lw_m2 125 rfl) rfl
theorem q540 : (Jvm.Cond.fieldLink "HairProvince" (49 : Nat) "HairProvince" "bottom" "J") ∈ lw_all := lw_g (lw_at lw_m2 126 rfl) rfl
theorem q541 : (Jvm.Cond.fieldLink "HairProvince" (53 : Nat) "HairProvince" "then" "LHairProvince$Province;") ∈ lw_all := lw_g (lw_at lw_m2 127 rfl) rfl
theorem q542 : (Jvm.Cond.fieldLink "HairProvince" (56 : Nat) "HairProvince" "lengths" "[Z") ∈ lw_all := lw_g (lw_at lw_m2 128 rfl) rfl
theorem q543 : (Jvm.Cond.fieldLink "HairProvince" (60 : Nat) "HairProvince" "ordersOf" "[I") ∈ lw_all := lw_g (lw_at lw_m2 129 rfl) rfl
theorem q544 : (Jvm.Cond.fieldLink "HairProvince" (64 : Nat) "HairProvince" "aheadOf" "[I") ∈ lw_all := lw_g (lw_at lw_m2 130 rfl) rfl
theorem q545 : (Jvm.Cond.fieldLink "HairProvince" (69 : Nat) "HairProvince" "ones" "[LHairProvince$Person;") ∈ lw_all := lw_g (lw_at lw_m2 131 rfl) rfl
theorem q546 : (Jvm.Cond.fieldLink "HairProvince" (73 : Nat) "HairProvince" "twos" "[LHairProvince$Person;") ∈ lw_all := lw_g (lw_at lw_m2 132 rfl) rfl
theorem q547 : (Jvm.Cond.fieldLink "HairProvince" (435 : Nat) "HairProvince" "firstMove" "I") ∈ lw_all := lw_g (lw_at lw_m2 133 rfl) rfl
theorem q548 : (Jvm.Cond.fieldLink "HairProvince" (475 : Nat) "HairProvince" "drawn" "I") ∈ lw_all := lw_g (lw_at lw_m2 134 rfl) rfl
theorem q549 : (Jvm.Cond.fieldLink "HairProvince" (519 : Nat) "HairProvince" "ranSteps" "I") ∈ lw_all := lw_g (lw_at lw_m2 135 rfl) rfl
theorem q550 : (Jvm.Cond.fieldLink "HairProvince" (76 : Nat) "HairProvince" "ran" "[I") ∈ lw_all := lw_g (lw_at lw_m2 136 rfl) rfl
theorem q551 : (Jvm.Cond.fieldLink "HairProvince" (79 : Nat) "HairProvince" "lasted" "[I") ∈ lw_all := lw_g (lw_at lw_m2 137 rfl) rfl
theorem q552 : (Jvm.Cond.fieldLink "HairProvince" (534 : Nat) "HairProvince" "isLasted" "Z") ∈ lw_all := lw_g (lw_at lw_m2 138 rfl) rfl
theorem q553 : (Jvm.Cond.fieldLink "HairProvince" (84 : Nat) "HairProvince" "marked" "[LHairProvince$Kept;") ∈ lw_all := lw_g (lw_at lw_m2 139 rfl) rfl
theorem q554 : (Jvm.Cond.fieldLink "HairProvince" (540 : Nat) "HairProvince" "marks" "I") ∈ lw_all := lw_g (lw_at lw_m2 140 rfl) rfl
theorem q555 : (Jvm.Cond.laysFinal "HairProvince" "HairProvince" "trays" "[LHairProvince$Tray;") ∈ lw_all := lw_g (lw_at lw_m2 141 rfl) rfl
theorem q556 : (Jvm.Cond.soleField "HairProvince" "trays") ∈ lw_all := lw_g (lw_at lw_m2 142 rfl) rfl
theorem q557 : (Jvm.Cond.laysFinal "HairProvince" "HairProvince" "reader" "LHairProvince$Reader;") ∈ lw_all := lw_g (lw_at lw_m2 143 rfl) rfl
theorem q558 : (Jvm.Cond.soleField "HairProvince" "reader") ∈ lw_all := lw_g (lw_at lw_m2 144 rfl) rfl
theorem q559 : (Jvm.Cond.laysFinal "HairProvince" "HairProvince" "trusting" "LHairProvince$Saying;") ∈ lw_all := lw_g (lw_at lw_m2 145 rfl) rfl
theorem q560 : (Jvm.Cond.soleField "HairProvince" "trusting") ∈ lw_all := lw_g (lw_at lw_m2 146 rfl) rfl
theorem q561 : (Jvm.Cond.lays "HairProvince" "HairProvince" "province" "LHairProvince$Province;") ∈ lw_all := lw_g (lw_at lw_m2 147 rfl) rfl
theorem q562 : (Jvm.Cond.soleField "HairProvince" "province") ∈ lw_all := lw_g (lw_at lw_m2 148 rfl) rfl
theorem q563 : (Jvm.Cond.lays "HairProvince" "HairProvince" "steps" "[LHairProvince$Step;") ∈ lw_all := lw_g (lw_at lw_m2 149 rfl) rfl
theorem q564 : (Jvm.Cond.soleField "HairProvince" "steps") ∈ lw_all := lw_g (lw_at lw_m2 150 rfl) rfl
theorem q565 : (Jvm.Cond.lays "HairProvince" "HairProvince" "stepMany" "I") ∈ lw_all := lw_g (lw_at lw_m2 151 rfl) rfl
theorem q566 : (Jvm.Cond.soleField "HairProvince" "stepMany") ∈ lw_all := lw_g (lw_at lw_m2 152 rfl) rfl
theorem q567 : (Jvm.Cond.lays "HairProvince" "HairProvince" "status" "I") ∈ lw_all := lw_g (lw_at lw_m2 153 rfl) rfl
theorem q568 : (Jvm.Cond.soleField "HairProvince" "status") ∈ lw_all := lw_g (lw_at lw_m2 154 rfl) rfl
theorem q569 : (Jvm.Cond.lays "HairProvince" "HairProvince" "faultKind" "I") ∈ lw_all := lw_g (lw_at lw_m2 155 rfl) rfl
theorem q570 : (Jvm.Cond.soleField "HairProvince" "faultKind") ∈ lw_all := lw_g (lw_at lw_m2 156 rfl) rfl
theorem q571 : (Jvm.Cond.lays "HairProvince" "HairProvince" "faultPlace" "I") ∈ lw_all := lw_g (lw_at lw_m2 157 rfl) rfl
theorem q572 : (Jvm.Cond.soleField "HairProvince" "faultPlace") ∈ lw_all := lw_g (lw_at lw_m2 158 rfl) rfl
theorem q573 : (Jvm.Cond.lays "HairProvince" "HairProvince" "top" "J") ∈ lw_all := lw_g (lw_at lw_m2 159 rfl) rfl
theorem q574 : (Jvm.Cond.soleField "HairProvince" "top") ∈ lw_all := lw_g (lw_at lw_m2 160 rfl) rfl
theorem q575 : (Jvm.Cond.lays "HairProvince" "HairProvince" "bottom" "J") ∈ lw_all := lw_g (lw_at lw_m2 161 rfl) rfl
theorem q576 : (Jvm.Cond.soleField "HairProvince" "bottom") ∈ lw_all := lw_g (lw_at lw_m2 162 rfl) rfl
theorem q577 : (Jvm.Cond.lays "HairProvince" "HairProvince" "then" "LHairProvince$Province;") ∈ lw_all := lw_g (lw_at lw_m2 163 rfl) rfl
theorem q578 : (Jvm.Cond.soleField "HairProvince" "then") ∈ lw_all := lw_g (lw_at lw_m2 164 rfl) rfl
theorem q579 : (Jvm.Cond.laysFinal "HairProvince" "HairProvince" "lengths" "[Z") ∈ lw_all := lw_g (lw_at lw_m2 165 rfl) rfl
theorem q580 : (Jvm.Cond.soleField "HairProvince" "lengths") ∈ lw_all := lw_g (lw_at lw_m2 166 rfl) rfl
theorem q581 : (Jvm.Cond.laysFinal "HairProvince" "HairProvince" "ordersOf" "[I") ∈ lw_all := lw_g (lw_at lw_m2 167 rfl) rfl
theorem q582 : (Jvm.Cond.soleField "HairProvince" "ordersOf") ∈ lw_all := lw_g (lw_at lw_m2 168 rfl) rfl
theorem q583 : (Jvm.Cond.laysFinal "HairProvince" "HairProvince" "aheadOf" "[I") ∈ lw_all := lw_g (lw_at lw_m2 169 rfl) rfl
theorem q584 : (Jvm.Cond.soleField "HairProvince" "aheadOf") ∈ lw_all := lw_g (lw_at lw_m2 170 rfl) rfl
theorem q585 : (Jvm.Cond.laysFinal "HairProvince" "HairProvince" "ones" "[LHairProvince$Person;") ∈ lw_all := lw_g (lw_at lw_m2 171 rfl) rfl
theorem q586 : (Jvm.Cond.soleField "HairProvince" "ones") ∈ lw_all := lw_g (lw_at lw_m2 172 rfl) rfl
theorem q587 : (Jvm.Cond.laysFinal "HairProvince" "HairProvince" "twos" "[LHairProvince$Person;") ∈ lw_all := lw_g (lw_at lw_m2 173 rfl) rfl
theorem q588 : (Jvm.Cond.soleField "HairProvince" "twos") ∈ lw_all := lw_g (lw_at lw_m2 174 rfl) rfl
theorem q589 : (Jvm.Cond.lays "HairProvince" "HairProvince" "firstMove" "I") ∈ lw_all := lw_g (lw_at lw_m2 175 rfl) rfl
theorem q590 : (Jvm.Cond.soleField "HairProvince" "firstMove") ∈ lw_all := lw_g (lw_at lw_m2 176 rfl) rfl
theorem q591 : (Jvm.Cond.lays "HairProvince" "HairProvince" "drawn" "I") ∈ lw_all := lw_g (lw_at lw_m2 177 rfl) rfl
theorem q592 : (Jvm.Cond.soleField "HairProvince" "drawn") ∈ lw_all := lw_g (lw_at lw_m2 178 rfl) rfl
theorem q593 : (Jvm.Cond.lays "HairProvince" "HairProvince" "ranSteps" "I") ∈ lw_all := lw_g (lw_at lw_m2 179 rfl) rfl
theorem q594 : (Jvm.Cond.soleField "HairProvince" "ranSteps") ∈ lw_all := lw_g (lw_at lw_m2 180 rfl) rfl
theorem q595 : (Jvm.Cond.laysFinal "HairProvince" "HairProvince" "ran" "[I") ∈ lw_all := lw_g (lw_at lw_m2 181 rfl) rfl
theorem q596 : (Jvm.Cond.soleField "HairProvince" "ran") ∈ lw_all := lw_g (lw_at lw_m2 182 rfl) rfl
theorem q597 : (Jvm.Cond.laysFinal "HairProvince" "HairProvince" "lasted" "[I") ∈ lw_all := lw_g (lw_at lw_m2 183 rfl) rfl
theorem q598 : (Jvm.Cond.soleField "HairProvince" "lasted") ∈ lw_all := lw_g (lw_at lw_m2 184 rfl) rfl
theorem q599 : (Jvm.Cond.lays "HairProvince" "HairProvince" "isLasted" "Z") ∈ lw_all := lw_g (lw_at lw_m2 185 rfl) rfl
theorem q600 : (Jvm.Cond.soleField "HairProvince" "isLasted") ∈ lw_all := lw_g (lw_at lw_m2 186 rfl) rfl
theorem q601 : (Jvm.Cond.laysFinal "HairProvince" "HairProvince" "marked" "[LHairProvince$Kept;") ∈ lw_all := lw_g (lw_at lw_m2 187 rfl) rfl
theorem q602 : (Jvm.Cond.soleField "HairProvince" "marked") ∈ lw_all := lw_g (lw_at lw_m2 188 rfl) rfl
theorem q603 : (Jvm.Cond.lays "HairProvince" "HairProvince" "marks" "I") ∈ lw_all := lw_g (lw_at lw_m2 189 rfl) rfl
theorem q604 : (Jvm.Cond.soleField "HairProvince" "marks") ∈ lw_all := lw_g (lw_at lw_m2 190 rfl) rfl
theorem q605 : (Jvm.Cond.superclass "HairProvince" "java/lang/Object") ∈ lw_all := lw_g (lw_at lw_m2 191 rfl) rfl
theorem q607 : (Jvm.Cond.instanceMethod ({ cls := "HairProvince", name := "status", desc := "()I" } : Jvm.MethodName)) ∈ lw_all := lw_g (lw_at lw_m2 193 rfl) rfl
theorem q608 : (Jvm.Cond.selects "HairProvince" ({ cls := "HairProvince", name := "status", desc := "()I" } : Jvm.MethodName) ({ cls := "HairProvince", name := "status", desc := "()I" } : Jvm.MethodName)) ∈ lw_all := lw_g (lw_at lw_m2 194 rfl) rfl
theorem q609 : (Jvm.Cond.code ({ cls := "HairProvince", name := "status", desc := "()I" } : Jvm.MethodName) prog_1_method_4_code (1 : Nat) (Option.some Jvm.ClassFile.FieldType.int)) ∈ lw_all := lw_g (lw_at lw_m2 195 rfl) rfl
theorem q611 : (Jvm.Cond.instanceMethod ({ cls := "HairProvince", name := "top", desc := "()J" } : Jvm.MethodName)) ∈ lw_all := lw_g (lw_at lw_m2 197 rfl) rfl
theorem q612 : (Jvm.Cond.selects "HairProvince" ({ cls := "HairProvince", name := "top", desc := "()J" } : Jvm.MethodName) ({ cls := "HairProvince", name := "top", desc := "()J" } : Jvm.MethodName)) ∈ lw_all := lw_g (lw_at lw_m2 198 rfl) rfl
theorem q613 : (Jvm.Cond.code ({ cls := "HairProvince", name := "top", desc := "()J" } : Jvm.MethodName) prog_1_method_5_code (1 : Nat) (Option.some Jvm.ClassFile.FieldType.long)) ∈ lw_all := lw_g (lw_at lw_m2 199 rfl) rfl
theorem q615 : (Jvm.Cond.instanceMethod ({ cls := "HairProvince", name := "bottom", desc := "()J" } : Jvm.MethodName)) ∈ lw_all := lw_g (lw_at lw_m2 201 rfl) rfl
theorem q616 : (Jvm.Cond.selects "HairProvince" ({ cls := "HairProvince", name := "bottom", desc := "()J" } : Jvm.MethodName) ({ cls := "HairProvince", name := "bottom", desc := "()J" } : Jvm.MethodName)) ∈ lw_all := lw_g (lw_at lw_m2 202 rfl) rfl
theorem q617 : (Jvm.Cond.code ({ cls := "HairProvince", name := "bottom", desc := "()J" } : Jvm.MethodName) prog_1_method_6_code (1 : Nat) (Option.some Jvm.ClassFile.FieldType.long)) ∈ lw_all := lw_g (lw_at lw_m2 203 rfl) rfl
theorem q619 : (Jvm.Cond.instanceMethod ({ cls := "HairProvince", name := "tray", desc := "(III)Z" } : Jvm.MethodName)) ∈ lw_all := lw_g (lw_at lw_m2 205 rfl) rfl
theorem q620 : (Jvm.Cond.selects "HairProvince" ({ cls := "HairProvince", name := "tray", desc := "(III)Z" } : Jvm.MethodName) ({ cls := "HairProvince", name := "tray", desc := "(III)Z" } : Jvm.MethodName)) ∈ lw_all := lw_g (lw_at lw_m2 206 rfl) rfl
theorem q621 : (Jvm.Cond.codeWith ({ cls := "HairProvince", name := "tray", desc := "(III)Z" } : Jvm.MethodName) prog_1_method_13_code (5 : Nat) (Option.some Jvm.ClassFile.FieldType.boolean) [((34 : Nat), (45 : Nat), (48 : Nat), (116 : Nat))]) ∈ lw_all := lw_g (lw_at lw_m2 207 rfl) rfl
theorem q622 : (Jvm.Cond.classLink "HairProvince" (116 : Nat) "java/lang/NegativeArraySizeException") ∈ lw_all := lw_g (lw_at lw_m2 208 rfl) rfl
theorem q649 : (Jvm.Cond.methodLink "HairProvince" (109 : Nat) ({ cls := "HairProvince", name := "isTray", desc := "(I)Z" } : Jvm.MethodName)) ∈ lw_all := lw_g (lw_at lw_m2 235 rfl) rfl
theorem q650 : (Jvm.Cond.static ({ cls := "HairProvince", name := "isTray", desc := "(I)Z" } : Jvm.MethodName)) ∈ lw_all := lw_g (lw_at lw_m2 236 rfl) rfl
theorem q651 : (Jvm.Cond.code ({ cls := "HairProvince", name := "isTray", desc := "(I)Z" } : Jvm.MethodName) prog_1_method_12_code (1 : Nat) (Option.some Jvm.ClassFile.FieldType.boolean)) ∈ lw_all := lw_g (lw_at lw_m2 237 rfl) rfl
theorem q652 : (Jvm.Cond.methodLink "HairProvince" (105 : Nat) ({ cls := "HairProvince", name := "is", desc := "(I)Z" } : Jvm.MethodName)) ∈ lw_all := lw_g (lw_at lw_m2 238 rfl) rfl
theorem q653 : (Jvm.Cond.privateMethod ({ cls := "HairProvince", name := "is", desc := "(I)Z" } : Jvm.MethodName)) ∈ lw_tbl := lw_at lw_m2 239 rfl
theorem q654 : (Jvm.Cond.instanceMethod ({ cls := "HairProvince", name := "is", desc := "(I)Z" } : Jvm.MethodName)) ∈ lw_all := lw_g (lw_at lw_m3 0 rfl) rfl
theorem q655 : (Jvm.Cond.code ({ cls := "HairProvince", name := "is", desc := "(I)Z" } : Jvm.MethodName) prog_1_method_7_code (2 : Nat) (Option.some Jvm.ClassFile.FieldType.boolean)) ∈ lw_all := lw_g (lw_at lw_m3 1 rfl) rfl
theorem q656 : (Jvm.Cond.methodLink "HairProvince" (112 : Nat) ({ cls := "HairProvince$Tray", name := "make", desc := "(II)V" } : Jvm.MethodName)) ∈ lw_all := lw_g (lw_at lw_m3 2 rfl) rfl
theorem q663 : (Jvm.Cond.instanceMethod ({ cls := "HairProvince", name := "write", desc := "(IIJ)Z" } : Jvm.MethodName)) ∈ lw_all := lw_g (lw_at lw_m3 9 rfl) rfl
theorem q664 : (Jvm.Cond.selects "HairProvince" ({ cls := "HairProvince", name := "write", desc := "(IIJ)Z" } : Jvm.MethodName) ({ cls := "HairProvince", name := "write", desc := "(IIJ)Z" } : Jvm.MethodName)) ∈ lw_all := lw_g (lw_at lw_m3 10 rfl) rfl
theorem q665 : (Jvm.Cond.codeWith ({ cls := "HairProvince", name := "write", desc := "(IIJ)Z" } : Jvm.MethodName) prog_1_method_14_code (6 : Nat) (Option.some Jvm.ClassFile.FieldType.boolean) [((13 : Nat), (24 : Nat), (27 : Nat), (122 : Nat)), ((13 : Nat), (24 : Nat), (35 : Nat), (124 : Nat))]) ∈ lw_all := lw_g (lw_at lw_m3 11 rfl) rfl
theorem q666 : (Jvm.Cond.classLink "HairProvince" (122 : Nat) "java/lang/NullPointerException") ∈ lw_all := lw_g (lw_at lw_m3 12 rfl) rfl
theorem q691 : (Jvm.Cond.classLink "HairProvince" (124 : Nat) "java/lang/ArrayIndexOutOfBoundsException") ∈ lw_all := lw_g (lw_at lw_m3 37 rfl) rfl
theorem q710 : (Jvm.Cond.methodLink "HairProvince" (118 : Nat) ({ cls := "HairProvince$Tray", name := "set", desc := "(IJ)V" } : Jvm.MethodName)) ∈ lw_all := lw_g (lw_at lw_m3 56 rfl) rfl
theorem q719 : (Jvm.Cond.instanceMethod ({ cls := "HairProvince", name := "read", desc := "(II)J" } : Jvm.MethodName)) ∈ lw_all := lw_g (lw_at lw_m3 65 rfl) rfl
theorem q720 : (Jvm.Cond.selects "HairProvince" ({ cls := "HairProvince", name := "read", desc := "(II)J" } : Jvm.MethodName) ({ cls := "HairProvince", name := "read", desc := "(II)J" } : Jvm.MethodName)) ∈ lw_all := lw_g (lw_at lw_m3 66 rfl) rfl
theorem q721 : (Jvm.Cond.codeWith ({ cls := "HairProvince", name := "read", desc := "(II)J" } : Jvm.MethodName) prog_1_method_15_code (4 : Nat) (Option.some Jvm.ClassFile.FieldType.long) [((19 : Nat), (29 : Nat), (30 : Nat), (122 : Nat)), ((19 : Nat), (29 : Nat), (39 : Nat), (124 : Nat))]) ∈ lw_all := lw_g (lw_at lw_m3 67 rfl) rfl
theorem q722 : (Jvm.Cond.methodLink "HairProvince" (98 : Nat) ({ cls := "HairProvince", name := "none", desc := "(I)I" } : Jvm.MethodName)) ∈ lw_all := lw_g (lw_at lw_m3 68 rfl) rfl
theorem q723 : (Jvm.Cond.privateMethod ({ cls := "HairProvince", name := "none", desc := "(I)I" } : Jvm.MethodName)) ∈ lw_tbl := lw_at lw_m3 69 rfl
theorem q724 : (Jvm.Cond.instanceMethod ({ cls := "HairProvince", name := "none", desc := "(I)I" } : Jvm.MethodName)) ∈ lw_all := lw_g (lw_at lw_m3 70 rfl) rfl
theorem q725 : (Jvm.Cond.code ({ cls := "HairProvince", name := "none", desc := "(I)I" } : Jvm.MethodName) prog_1_method_8_code (2 : Nat) (Option.some Jvm.ClassFile.FieldType.int)) ∈ lw_all := lw_g (lw_at lw_m3 71 rfl) rfl
theorem q726 : (Jvm.Cond.methodLink "HairProvince" (126 : Nat) ({ cls := "HairProvince$Tray", name := "get", desc := "(I)J" } : Jvm.MethodName)) ∈ lw_all := lw_g (lw_at lw_m3 72 rfl) rfl
theorem q730 : (Jvm.Cond.constantLong "HairProvince" (130 : Nat) (-1 : Int64)) ∈ lw_all := lw_g (lw_at lw_m3 76 rfl) rfl
theorem q732 : (Jvm.Cond.instanceMethod ({ cls := "HairProvince", name := "pour", desc := "(IIIII)Z" } : Jvm.MethodName)) ∈ lw_all := lw_g (lw_at lw_m3 78 rfl) rfl
theorem q733 : (Jvm.Cond.selects "HairProvince" ({ cls := "HairProvince", name := "pour", desc := "(IIIII)Z" } : Jvm.MethodName) ({ cls := "HairProvince", name := "pour", desc := "(IIIII)Z" } : Jvm.MethodName)) ∈ lw_all := lw_g (lw_at lw_m3 79 rfl) rfl
theorem q734 : (Jvm.Cond.codeWith ({ cls := "HairProvince", name := "pour", desc := "(IIIII)Z" } : Jvm.MethodName) prog_1_method_16_code (9 : Nat) (Option.some Jvm.ClassFile.FieldType.boolean) [((80 : Nat), (92 : Nat), (95 : Nat), (122 : Nat)), ((80 : Nat), (92 : Nat), (103 : Nat), (145 : Nat))]) ∈ lw_all := lw_g (lw_at lw_m3 80 rfl) rfl
theorem q735 : (Jvm.Cond.classLink "HairProvince" (145 : Nat) "java/lang/IndexOutOfBoundsException") ∈ lw_all := lw_g (lw_at lw_m3 81 rfl) rfl
theorem q736 : (Jvm.Cond.methodLink "HairProvince" (139 : Nat) ({ cls := "java/lang/System", name := "arraycopy", desc := "(Ljava/lang/Object;ILjava/lang/Object;II)V" } : Jvm.MethodName)) ∈ lw_all := lw_g (lw_at lw_m3 82 rfl) rfl
theorem q740 : (Jvm.Cond.instanceMethod ({ cls := "HairProvince", name := "feed", desc := "(IIIII)I" } : Jvm.MethodName)) ∈ lw_all := lw_g (lw_at lw_m3 86 rfl) rfl
theorem q741 : (Jvm.Cond.selects "HairProvince" ({ cls := "HairProvince", name := "feed", desc := "(IIIII)I" } : Jvm.MethodName) ({ cls := "HairProvince", name := "feed", desc := "(IIIII)I" } : Jvm.MethodName)) ∈ lw_all := lw_g (lw_at lw_m3 87 rfl) rfl
theorem q742 : (Jvm.Cond.code ({ cls := "HairProvince", name := "feed", desc := "(IIIII)I" } : Jvm.MethodName) prog_1_method_24_code (6 : Nat) (Option.some Jvm.ClassFile.FieldType.int)) ∈ lw_all := lw_g (lw_at lw_m3 88 rfl) rfl
theorem q743 : (Jvm.Cond.methodLink "HairProvince" (171 : Nat) ({ cls := "HairProvince", name := "four", desc := "(I)V" } : Jvm.MethodName)) ∈ lw_all := lw_g (lw_at lw_m3 89 rfl) rfl
theorem q744 : (Jvm.Cond.privateMethod ({ cls := "HairProvince", name := "four", desc := "(I)V" } : Jvm.MethodName)) ∈ lw_tbl := lw_at lw_m3 90 rfl
theorem q745 : (Jvm.Cond.instanceMethod ({ cls := "HairProvince", name := "four", desc := "(I)V" } : Jvm.MethodName)) ∈ lw_all := lw_g (lw_at lw_m3 91 rfl) rfl
theorem q746 : (Jvm.Cond.code ({ cls := "HairProvince", name := "four", desc := "(I)V" } : Jvm.MethodName) prog_1_method_25_code (3 : Nat) (Option.none : Option Jvm.ClassFile.FieldType)) ∈ lw_all := lw_g (lw_at lw_m3 92 rfl) rfl
theorem q748 : (Jvm.Cond.instanceMethod ({ cls := "HairProvince", name := "province", desc := "(I)I" } : Jvm.MethodName)) ∈ lw_all := lw_g (lw_at lw_m3 94 rfl) rfl
theorem q749 : (Jvm.Cond.selects "HairProvince" ({ cls := "HairProvince", name := "province", desc := "(I)I" } : Jvm.MethodName) ({ cls := "HairProvince", name := "province", desc := "(I)I" } : Jvm.MethodName)) ∈ lw_all := lw_g (lw_at lw_m3 95 rfl) rfl
theorem q750 : (Jvm.Cond.codeWith ({ cls := "HairProvince", name := "province", desc := "(I)I" } : Jvm.MethodName) prog_1_method_28_code (3 : Nat) (Option.some Jvm.ClassFile.FieldType.int) [((17 : Nat), (29 : Nat), (32 : Nat), (17 : Nat))]) ∈ lw_all := lw_g (lw_at lw_m3 96 rfl) rfl
theorem q751 : (Jvm.Cond.methodLink "HairProvince" (185 : Nat) ({ cls := "HairProvince", name := "accepts", desc := "(II)Z" } : Jvm.MethodName)) ∈ lw_all := lw_g (lw_at lw_m3 97 rfl) rfl
theorem q752 : (Jvm.Cond.privateMethod ({ cls := "HairProvince", name := "accepts", desc := "(II)Z" } : Jvm.MethodName)) ∈ lw_tbl := lw_at lw_m3 98 rfl
theorem q753 : (Jvm.Cond.instanceMethod ({ cls := "HairProvince", name := "accepts", desc := "(II)Z" } : Jvm.MethodName)) ∈ lw_all := lw_g (lw_at lw_m3 99 rfl) rfl
theorem q754 : (Jvm.Cond.code ({ cls := "HairProvince", name := "accepts", desc := "(II)Z" } : Jvm.MethodName) prog_1_method_26_code (3 : Nat) (Option.some Jvm.ClassFile.FieldType.boolean)) ∈ lw_all := lw_g (lw_at lw_m3 100 rfl) rfl
theorem q755 : (Jvm.Cond.methodLink "HairProvince" (189 : Nat) ({ cls := "HairProvince$Reader", name := "province", desc := "(I)LHairProvince$Province;" } : Jvm.MethodName)) ∈ lw_all := lw_g (lw_at lw_m3 101 rfl) rfl
theorem q872 : (Jvm.Cond.static ({ cls := "HairProvince", name := "isIn", desc := "(II)Z" } : Jvm.MethodName)) ∈ lw_all := lw_g (lw_at lw_m3 218 rfl) rfl
theorem q873 : (Jvm.Cond.code ({ cls := "HairProvince", name := "isIn", desc := "(II)Z" } : Jvm.MethodName) prog_1_method_2_code (2 : Nat) (Option.some Jvm.ClassFile.FieldType.boolean)) ∈ lw_all := lw_g (lw_at lw_m3 219 rfl) rfl
theorem q927 : (Jvm.Cond.fieldLinkNest "HairProvince" (249 : Nat) "HairProvince$Word" "grows" "I" "HairProvince") ∈ lw_tbl := lw_at lw_m4 33 rfl
theorem q930 : (Jvm.Cond.fieldLinkNest "HairProvince" (254 : Nat) "HairProvince$Word" "grey" "I" "HairProvince") ∈ lw_tbl := lw_at lw_m4 36 rfl
theorem q933 : (Jvm.Cond.fieldLinkNest "HairProvince" (261 : Nat) "HairProvince$Word" "halves" "I" "HairProvince") ∈ lw_tbl := lw_at lw_m4 39 rfl
theorem q985 : (Jvm.Cond.fieldLink "HairProvince" (295 : Nat) "HairProvince$Dinner" "first" "I") ∈ lw_all := lw_g (lw_at lw_m4 91 rfl) rfl
theorem q988 : (Jvm.Cond.fieldLink "HairProvince" (300 : Nat) "HairProvince$Dinner" "second" "I") ∈ lw_all := lw_g (lw_at lw_m4 94 rfl) rfl
theorem q991 : (Jvm.Cond.fieldLink "HairProvince" (303 : Nat) "HairProvince$Dinner" "every" "I") ∈ lw_all := lw_g (lw_at lw_m4 97 rfl) rfl
theorem q1018 : (Jvm.Cond.methodLink "HairProvince" (192 : Nat) ({ cls := "HairProvince", name := "refused", desc := "(LHairProvince$Wrong;)I" } : Jvm.MethodName)) ∈ lw_all := lw_g (lw_at lw_m4 124 rfl) rfl
theorem q1019 : (Jvm.Cond.privateMethod ({ cls := "HairProvince", name := "refused", desc := "(LHairProvince$Wrong;)I" } : Jvm.MethodName)) ∈ lw_tbl := lw_at lw_m4 125 rfl
theorem q1020 : (Jvm.Cond.instanceMethod ({ cls := "HairProvince", name := "refused", desc := "(LHairProvince$Wrong;)I" } : Jvm.MethodName)) ∈ lw_all := lw_g (lw_at lw_m4 126 rfl) rfl
theorem q1021 : (Jvm.Cond.code ({ cls := "HairProvince", name := "refused", desc := "(LHairProvince$Wrong;)I" } : Jvm.MethodName) prog_1_method_27_code (2 : Nat) (Option.some Jvm.ClassFile.FieldType.int)) ∈ lw_all := lw_g (lw_at lw_m4 127 rfl) rfl
theorem q1022 : (Jvm.Cond.methodLink "HairProvince" (102 : Nat) ({ cls := "HairProvince", name := "gives", desc := "(I)I" } : Jvm.MethodName)) ∈ lw_all := lw_g (lw_at lw_m4 128 rfl) rfl
theorem q1023 : (Jvm.Cond.privateMethod ({ cls := "HairProvince", name := "gives", desc := "(I)I" } : Jvm.MethodName)) ∈ lw_tbl := lw_at lw_m4 129 rfl
theorem q1024 : (Jvm.Cond.instanceMethod ({ cls := "HairProvince", name := "gives", desc := "(I)I" } : Jvm.MethodName)) ∈ lw_all := lw_g (lw_at lw_m4 130 rfl) rfl
theorem q1025 : (Jvm.Cond.code ({ cls := "HairProvince", name := "gives", desc := "(I)I" } : Jvm.MethodName) prog_1_method_9_code (2 : Nat) (Option.some Jvm.ClassFile.FieldType.int)) ∈ lw_all := lw_g (lw_at lw_m4 131 rfl) rfl
theorem q1027 : (Jvm.Cond.instanceMethod ({ cls := "HairProvince", name := "years", desc := "(I)I" } : Jvm.MethodName)) ∈ lw_all := lw_g (lw_at lw_m4 133 rfl) rfl
theorem q1028 : (Jvm.Cond.selects "HairProvince" ({ cls := "HairProvince", name := "years", desc := "(I)I" } : Jvm.MethodName) ({ cls := "HairProvince", name := "years", desc := "(I)I" } : Jvm.MethodName)) ∈ lw_all := lw_g (lw_at lw_m4 134 rfl) rfl
theorem q1029 : (Jvm.Cond.codeWith ({ cls := "HairProvince", name := "years", desc := "(I)I" } : Jvm.MethodName) prog_1_method_29_code (3 : Nat) (Option.some Jvm.ClassFile.FieldType.int) [((17 : Nat), (33 : Nat), (36 : Nat), (17 : Nat))]) ∈ lw_all := lw_g (lw_at lw_m4 135 rfl) rfl
theorem q1030 : (Jvm.Cond.methodLink "HairProvince" (203 : Nat) ({ cls := "HairProvince$Reader", name := "years", desc := "(ILHairProvince$Province;)[LHairProvince$Step;" } : Jvm.MethodName)) ∈ lw_all := lw_g (lw_at lw_m4 136 rfl) rfl
theorem q1047 : (Jvm.Cond.fieldLink "HairProvince" (485 : Nat) "HairProvince$Step" "kind" "I") ∈ lw_all := lw_g (lw_at lw_m4 153 rfl) rfl
theorem q1049 : (Jvm.Cond.fieldLinkNest "HairProvince" (488 : Nat) "HairProvince$Step" "one" "I" "HairProvince") ∈ lw_tbl := lw_at lw_m4 155 rfl
theorem q1051 : (Jvm.Cond.fieldLinkNest "HairProvince" (494 : Nat) "HairProvince$Step" "two" "I" "HairProvince") ∈ lw_tbl := lw_at lw_m4 157 rfl
theorem q1053 : (Jvm.Cond.fieldLinkNest "HairProvince" (497 : Nat) "HairProvince$Step" "three" "I" "HairProvince") ∈ lw_tbl := lw_at lw_m4 159 rfl
theorem q1055 : (Jvm.Cond.fieldLinkNest "HairProvince" (510 : Nat) "HairProvince$Step" "test" "I" "HairProvince") ∈ lw_tbl := lw_at lw_m4 161 rfl
theorem q1057 : (Jvm.Cond.fieldLinkNest "HairProvince" (513 : Nat) "HairProvince$Step" "compares" "I" "HairProvince") ∈ lw_tbl := lw_at lw_m4 163 rfl
theorem q1059 : (Jvm.Cond.fieldLinkNest "HairProvince" (516 : Nat) "HairProvince$Step" "to" "I" "HairProvince") ∈ lw_tbl := lw_at lw_m4 165 rfl
theorem q1060 : (Jvm.Cond.fieldLinkNest "HairProvince" (507 : Nat) "HairProvince$Step" "rounds" "I" "HairProvince") ∈ lw_tbl := lw_at lw_m4 166 rfl
theorem q1091 : (Jvm.Cond.instanceMethod ({ cls := "HairProvince", name := "fault", desc := "(I)I" } : Jvm.MethodName)) ∈ lw_all := lw_g (lw_at lw_m4 197 rfl) rfl
theorem q1092 : (Jvm.Cond.selects "HairProvince" ({ cls := "HairProvince", name := "fault", desc := "(I)I" } : Jvm.MethodName) ({ cls := "HairProvince", name := "fault", desc := "(I)I" } : Jvm.MethodName)) ∈ lw_all := lw_g (lw_at lw_m4 198 rfl) rfl
theorem q1093 : (Jvm.Cond.code ({ cls := "HairProvince", name := "fault", desc := "(I)I" } : Jvm.MethodName) prog_1_method_30_code (2 : Nat) (Option.some Jvm.ClassFile.FieldType.int)) ∈ lw_all := lw_g (lw_at lw_m4 199 rfl) rfl
theorem q1095 : (Jvm.Cond.instanceMethod ({ cls := "HairProvince", name := "many", desc := "(I)I" } : Jvm.MethodName)) ∈ lw_all := lw_g (lw_at lw_m4 201 rfl) rfl
theorem q1096 : (Jvm.Cond.selects "HairProvince" ({ cls := "HairProvince", name := "many", desc := "(I)I" } : Jvm.MethodName) ({ cls := "HairProvince", name := "many", desc := "(I)I" } : Jvm.MethodName)) ∈ lw_all := lw_g (lw_at lw_m4 202 rfl) rfl
theorem q1097 : (Jvm.Cond.code ({ cls := "HairProvince", name := "many", desc := "(I)I" } : Jvm.MethodName) prog_1_method_32_code (2 : Nat) (Option.some Jvm.ClassFile.FieldType.int)) ∈ lw_all := lw_g (lw_at lw_m4 203 rfl) rfl
theorem q1098 : (Jvm.Cond.methodLink "HairProvince" (230 : Nat) ({ cls := "HairProvince", name := "barbers", desc := "()I" } : Jvm.MethodName)) ∈ lw_all := lw_g (lw_at lw_m4 204 rfl) rfl
theorem q1099 : (Jvm.Cond.privateMethod ({ cls := "HairProvince", name := "barbers", desc := "()I" } : Jvm.MethodName)) ∈ lw_tbl := lw_at lw_m4 205 rfl
theorem q1100 : (Jvm.Cond.instanceMethod ({ cls := "HairProvince", name := "barbers", desc := "()I" } : Jvm.MethodName)) ∈ lw_all := lw_g (lw_at lw_m4 206 rfl) rfl
theorem q1101 : (Jvm.Cond.code ({ cls := "HairProvince", name := "barbers", desc := "()I" } : Jvm.MethodName) prog_1_method_31_code (3 : Nat) (Option.some Jvm.ClassFile.FieldType.int)) ∈ lw_all := lw_g (lw_at lw_m4 207 rfl) rfl
theorem q1102 : (Jvm.Cond.methodLink "HairProvince" (239 : Nat) ({ cls := "HairProvince$Province", name := "allHair", desc := "()I" } : Jvm.MethodName)) ∈ lw_all := lw_g (lw_at lw_m4 208 rfl) rfl
theorem q1112 : (Jvm.Cond.instanceMethod ({ cls := "HairProvince", name := "word", desc := "(II)I" } : Jvm.MethodName)) ∈ lw_all := lw_g (lw_at lw_m4 218 rfl) rfl
theorem q1113 : (Jvm.Cond.selects "HairProvince" ({ cls := "HairProvince", name := "word", desc := "(II)I" } : Jvm.MethodName) ({ cls := "HairProvince", name := "word", desc := "(II)I" } : Jvm.MethodName)) ∈ lw_all := lw_g (lw_at lw_m4 219 rfl) rfl
theorem q1114 : (Jvm.Cond.code ({ cls := "HairProvince", name := "word", desc := "(II)I" } : Jvm.MethodName) prog_1_method_33_code (4 : Nat) (Option.some Jvm.ClassFile.FieldType.int)) ∈ lw_all := lw_g (lw_at lw_m4 220 rfl) rfl
theorem q1115 : (Jvm.Cond.methodLink "HairProvince" (242 : Nat) ({ cls := "HairProvince", name := "isWord", desc := "(I)Z" } : Jvm.MethodName)) ∈ lw_all := lw_g (lw_at lw_m4 221 rfl) rfl
theorem q1116 : (Jvm.Cond.privateMethod ({ cls := "HairProvince", name := "isWord", desc := "(I)Z" } : Jvm.MethodName)) ∈ lw_tbl := lw_at lw_m4 222 rfl
theorem q1117 : (Jvm.Cond.instanceMethod ({ cls := "HairProvince", name := "isWord", desc := "(I)Z" } : Jvm.MethodName)) ∈ lw_all := lw_g (lw_at lw_m4 223 rfl) rfl
theorem q1118 : (Jvm.Cond.code ({ cls := "HairProvince", name := "isWord", desc := "(I)Z" } : Jvm.MethodName) prog_1_method_18_code (2 : Nat) (Option.some Jvm.ClassFile.FieldType.boolean)) ∈ lw_all := lw_g (lw_at lw_m4 224 rfl) rfl
theorem q1119 : (Jvm.Cond.methodLink "HairProvince" (257 : Nat) ({ cls := "HairProvince$Province", name := "peopleWith", desc := "(II)I" } : Jvm.MethodName)) ∈ lw_all := lw_g (lw_at lw_m4 225 rfl) rfl
theorem q1125 : (Jvm.Cond.instanceMethod ({ cls := "HairProvince", name := "person", desc := "(II)I" } : Jvm.MethodName)) ∈ lw_all := lw_g (lw_at lw_m4 231 rfl) rfl
theorem q1126 : (Jvm.Cond.selects "HairProvince" ({ cls := "HairProvince", name := "person", desc := "(II)I" } : Jvm.MethodName) ({ cls := "HairProvince", name := "person", desc := "(II)I" } : Jvm.MethodName)) ∈ lw_all := lw_g (lw_at lw_m4 232 rfl) rfl
theorem q1127 : (Jvm.Cond.code ({ cls := "HairProvince", name := "person", desc := "(II)I" } : Jvm.MethodName) prog_1_method_34_code (4 : Nat) (Option.some Jvm.ClassFile.FieldType.int)) ∈ lw_all := lw_g (lw_at lw_m4 233 rfl) rfl
theorem q1128 : (Jvm.Cond.methodLink "HairProvince" (264 : Nat) ({ cls := "HairProvince", name := "isPerson", desc := "(I)Z" } : Jvm.MethodName)) ∈ lw_all := lw_g (lw_at lw_m4 234 rfl) rfl
theorem q1129 : (Jvm.Cond.privateMethod ({ cls := "HairProvince", name := "isPerson", desc := "(I)Z" } : Jvm.MethodName)) ∈ lw_tbl := lw_at lw_m4 235 rfl
theorem q1130 : (Jvm.Cond.instanceMethod ({ cls := "HairProvince", name := "isPerson", desc := "(I)Z" } : Jvm.MethodName)) ∈ lw_all := lw_g (lw_at lw_m4 236 rfl) rfl
theorem q1131 : (Jvm.Cond.code ({ cls := "HairProvince", name := "isPerson", desc := "(I)Z" } : Jvm.MethodName) prog_1_method_19_code (2 : Nat) (Option.some Jvm.ClassFile.FieldType.boolean)) ∈ lw_all := lw_g (lw_at lw_m4 237 rfl) rfl
theorem q1132 : (Jvm.Cond.methodLink "HairProvince" (276 : Nat) ({ cls := "HairProvince$Person", name := "hair", desc := "()I" } : Jvm.MethodName)) ∈ lw_all := lw_g (lw_at lw_m4 238 rfl) rfl
theorem q1134 : (Jvm.Cond.instanceMethod ({ cls := "HairProvince", name := "strand", desc := "(III)I" } : Jvm.MethodName)) ∈ lw_all := lw_g (lw_at lw_m5 0 rfl) rfl
theorem q1135 : (Jvm.Cond.selects "HairProvince" ({ cls := "HairProvince", name := "strand", desc := "(III)I" } : Jvm.MethodName) ({ cls := "HairProvince", name := "strand", desc := "(III)I" } : Jvm.MethodName)) ∈ lw_all := lw_g (lw_at lw_m5 1 rfl) rfl
theorem q1136 : (Jvm.Cond.code ({ cls := "HairProvince", name := "strand", desc := "(III)I" } : Jvm.MethodName) prog_1_method_35_code (5 : Nat) (Option.some Jvm.ClassFile.FieldType.int)) ∈ lw_all := lw_g (lw_at lw_m5 2 rfl) rfl
theorem q1137 : (Jvm.Cond.methodLink "HairProvince" (162 : Nat) ({ cls := "HairProvince", name := "isFrom", desc := "(JJJ)Z" } : Jvm.MethodName)) ∈ lw_all := lw_g (lw_at lw_m5 3 rfl) rfl
theorem q1138 : (Jvm.Cond.static ({ cls := "HairProvince", name := "isFrom", desc := "(JJJ)Z" } : Jvm.MethodName)) ∈ lw_all := lw_g (lw_at lw_m5 4 rfl) rfl
theorem q1139 : (Jvm.Cond.code ({ cls := "HairProvince", name := "isFrom", desc := "(JJJ)Z" } : Jvm.MethodName) prog_1_method_17_code (6 : Nat) (Option.some Jvm.ClassFile.FieldType.boolean)) ∈ lw_all := lw_g (lw_at lw_m5 5 rfl) rfl
theorem q1140 : (Jvm.Cond.methodLink "HairProvince" (279 : Nat) ({ cls := "HairProvince", name := "isIn", desc := "(II)Z" } : Jvm.MethodName)) ∈ lw_all := lw_g (lw_at lw_m5 6 rfl) rfl
theorem q1142 : (Jvm.Cond.instanceMethod ({ cls := "HairProvince", name := "dinner", desc := "(II)I" } : Jvm.MethodName)) ∈ lw_all := lw_g (lw_at lw_m5 8 rfl) rfl
theorem q1143 : (Jvm.Cond.selects "HairProvince" ({ cls := "HairProvince", name := "dinner", desc := "(II)I" } : Jvm.MethodName) ({ cls := "HairProvince", name := "dinner", desc := "(II)I" } : Jvm.MethodName)) ∈ lw_all := lw_g (lw_at lw_m5 9 rfl) rfl
theorem q1144 : (Jvm.Cond.code ({ cls := "HairProvince", name := "dinner", desc := "(II)I" } : Jvm.MethodName) prog_1_method_36_code (4 : Nat) (Option.some Jvm.ClassFile.FieldType.int)) ∈ lw_all := lw_g (lw_at lw_m5 10 rfl) rfl
theorem q1145 : (Jvm.Cond.methodLink "HairProvince" (288 : Nat) ({ cls := "HairProvince", name := "isDinner", desc := "(I)Z" } : Jvm.MethodName)) ∈ lw_all := lw_g (lw_at lw_m5 11 rfl) rfl
theorem q1146 : (Jvm.Cond.privateMethod ({ cls := "HairProvince", name := "isDinner", desc := "(I)Z" } : Jvm.MethodName)) ∈ lw_tbl := lw_at lw_m5 12 rfl
theorem q1147 : (Jvm.Cond.instanceMethod ({ cls := "HairProvince", name := "isDinner", desc := "(I)Z" } : Jvm.MethodName)) ∈ lw_all := lw_g (lw_at lw_m5 13 rfl) rfl
theorem q1148 : (Jvm.Cond.code ({ cls := "HairProvince", name := "isDinner", desc := "(I)Z" } : Jvm.MethodName) prog_1_method_20_code (2 : Nat) (Option.some Jvm.ClassFile.FieldType.boolean)) ∈ lw_all := lw_g (lw_at lw_m5 14 rfl) rfl
theorem q1150 : (Jvm.Cond.instanceMethod ({ cls := "HairProvince", name := "longest", desc := "(I)I" } : Jvm.MethodName)) ∈ lw_all := lw_g (lw_at lw_m5 16 rfl) rfl
theorem q1151 : (Jvm.Cond.selects "HairProvince" ({ cls := "HairProvince", name := "longest", desc := "(I)I" } : Jvm.MethodName) ({ cls := "HairProvince", name := "longest", desc := "(I)I" } : Jvm.MethodName)) ∈ lw_all := lw_g (lw_at lw_m5 17 rfl) rfl
theorem q1152 : (Jvm.Cond.code ({ cls := "HairProvince", name := "longest", desc := "(I)I" } : Jvm.MethodName) prog_1_method_37_code (2 : Nat) (Option.some Jvm.ClassFile.FieldType.int)) ∈ lw_all := lw_g (lw_at lw_m5 18 rfl) rfl
theorem q1153 : (Jvm.Cond.methodLink "HairProvince" (306 : Nat) ({ cls := "HairProvince$Person", name := "longestOf", desc := "(I)I" } : Jvm.MethodName)) ∈ lw_all := lw_g (lw_at lw_m5 19 rfl) rfl
theorem q1157 : (Jvm.Cond.methodLink "HairProvince" (309 : Nat) ({ cls := "HairProvince", name := "orNothing", desc := "(I)I" } : Jvm.MethodName)) ∈ lw_all := lw_g (lw_at lw_m5 23 rfl) rfl
theorem q1158 : (Jvm.Cond.privateMethod ({ cls := "HairProvince", name := "orNothing", desc := "(I)I" } : Jvm.MethodName)) ∈ lw_tbl := lw_at lw_m5 24 rfl
theorem q1159 : (Jvm.Cond.instanceMethod ({ cls := "HairProvince", name := "orNothing", desc := "(I)I" } : Jvm.MethodName)) ∈ lw_all := lw_g (lw_at lw_m5 25 rfl) rfl
theorem q1160 : (Jvm.Cond.code ({ cls := "HairProvince", name := "orNothing", desc := "(I)I" } : Jvm.MethodName) prog_1_method_10_code (2 : Nat) (Option.some Jvm.ClassFile.FieldType.int)) ∈ lw_all := lw_g (lw_at lw_m5 26 rfl) rfl
theorem q1162 : (Jvm.Cond.instanceMethod ({ cls := "HairProvince", name := "copyHair", desc := "(I)I" } : Jvm.MethodName)) ∈ lw_all := lw_g (lw_at lw_m5 28 rfl) rfl
theorem q1163 : (Jvm.Cond.selects "HairProvince" ({ cls := "HairProvince", name := "copyHair", desc := "(I)I" } : Jvm.MethodName) ({ cls := "HairProvince", name := "copyHair", desc := "(I)I" } : Jvm.MethodName)) ∈ lw_all := lw_g (lw_at lw_m5 29 rfl) rfl
theorem q1164 : (Jvm.Cond.code ({ cls := "HairProvince", name := "copyHair", desc := "(I)I" } : Jvm.MethodName) prog_1_method_38_code (4 : Nat) (Option.some Jvm.ClassFile.FieldType.int)) ∈ lw_all := lw_g (lw_at lw_m5 30 rfl) rfl
theorem q1165 : (Jvm.Cond.methodLink "HairProvince" (312 : Nat) ({ cls := "HairProvince$Tray", name := "many", desc := "()I" } : Jvm.MethodName)) ∈ lw_all := lw_g (lw_at lw_m5 31 rfl) rfl
theorem q1170 : (Jvm.Cond.instanceMethod ({ cls := "HairProvince", name := "day", desc := "(I)I" } : Jvm.MethodName)) ∈ lw_all := lw_g (lw_at lw_m5 36 rfl) rfl
theorem q1171 : (Jvm.Cond.selects "HairProvince" ({ cls := "HairProvince", name := "day", desc := "(I)I" } : Jvm.MethodName) ({ cls := "HairProvince", name := "day", desc := "(I)I" } : Jvm.MethodName)) ∈ lw_all := lw_g (lw_at lw_m5 37 rfl) rfl
theorem q1172 : (Jvm.Cond.code ({ cls := "HairProvince", name := "day", desc := "(I)I" } : Jvm.MethodName) prog_1_method_39_code (2 : Nat) (Option.some Jvm.ClassFile.FieldType.int)) ∈ lw_all := lw_g (lw_at lw_m5 38 rfl) rfl
theorem q1173 : (Jvm.Cond.constantLong "HairProvince" (315 : Nat) (99 : Int64)) ∈ lw_all := lw_g (lw_at lw_m5 39 rfl) rfl
theorem q1174 : (Jvm.Cond.methodLink "HairProvince" (317 : Nat) ({ cls := "HairProvince$Province", name := "days", desc := "(I)I" } : Jvm.MethodName)) ∈ lw_all := lw_g (lw_at lw_m5 40 rfl) rfl
theorem q1214 : (Jvm.Cond.instanceMethod ({ cls := "HairProvince", name := "say", desc := "(III)I" } : Jvm.MethodName)) ∈ lw_all := lw_g (lw_at lw_m5 80 rfl) rfl
theorem q1215 : (Jvm.Cond.selects "HairProvince" ({ cls := "HairProvince", name := "say", desc := "(III)I" } : Jvm.MethodName) ({ cls := "HairProvince", name := "say", desc := "(III)I" } : Jvm.MethodName)) ∈ lw_all := lw_g (lw_at lw_m5 81 rfl) rfl
theorem q1216 : (Jvm.Cond.code ({ cls := "HairProvince", name := "say", desc := "(III)I" } : Jvm.MethodName) prog_1_method_40_code (4 : Nat) (Option.some Jvm.ClassFile.FieldType.int)) ∈ lw_all := lw_g (lw_at lw_m5 82 rfl) rfl
theorem q1217 : (Jvm.Cond.methodLink "HairProvince" (320 : Nat) ({ cls := "HairProvince$Province", name := "says", desc := "(III)Z" } : Jvm.MethodName)) ∈ lw_all := lw_g (lw_at lw_m5 83 rfl) rfl
theorem q1229 : (Jvm.Cond.instanceMethod ({ cls := "HairProvince", name := "keep", desc := "(II)I" } : Jvm.MethodName)) ∈ lw_all := lw_g (lw_at lw_m5 95 rfl) rfl
theorem q1230 : (Jvm.Cond.selects "HairProvince" ({ cls := "HairProvince", name := "keep", desc := "(II)I" } : Jvm.MethodName) ({ cls := "HairProvince", name := "keep", desc := "(II)I" } : Jvm.MethodName)) ∈ lw_all := lw_g (lw_at lw_m5 96 rfl) rfl
theorem q1231 : (Jvm.Cond.code ({ cls := "HairProvince", name := "keep", desc := "(II)I" } : Jvm.MethodName) prog_1_method_41_code (4 : Nat) (Option.some Jvm.ClassFile.FieldType.int)) ∈ lw_all := lw_g (lw_at lw_m5 97 rfl) rfl
theorem q1232 : (Jvm.Cond.methodLink "HairProvince" (324 : Nat) ({ cls := "HairProvince$Person", name := "keeps", desc := "(I)Z" } : Jvm.MethodName)) ∈ lw_all := lw_g (lw_at lw_m5 98 rfl) rfl
theorem q1233 : (Jvm.Cond.methodLink "HairProvince" (326 : Nat) ({ cls := "HairProvince", name := "bits", desc := "(I)I" } : Jvm.MethodName)) ∈ lw_all := lw_g (lw_at lw_m5 99 rfl) rfl
theorem q1234 : (Jvm.Cond.static ({ cls := "HairProvince", name := "bits", desc := "(I)I" } : Jvm.MethodName)) ∈ lw_all := lw_g (lw_at lw_m5 100 rfl) rfl
theorem q1235 : (Jvm.Cond.code ({ cls := "HairProvince", name := "bits", desc := "(I)I" } : Jvm.MethodName) prog_1_method_1_code (3 : Nat) (Option.some Jvm.ClassFile.FieldType.int)) ∈ lw_all := lw_g (lw_at lw_m5 101 rfl) rfl
theorem q1237 : (Jvm.Cond.instanceMethod ({ cls := "HairProvince", name := "learn", desc := "(II)I" } : Jvm.MethodName)) ∈ lw_all := lw_g (lw_at lw_m5 103 rfl) rfl
theorem q1238 : (Jvm.Cond.selects "HairProvince" ({ cls := "HairProvince", name := "learn", desc := "(II)I" } : Jvm.MethodName) ({ cls := "HairProvince", name := "learn", desc := "(II)I" } : Jvm.MethodName)) ∈ lw_all := lw_g (lw_at lw_m5 104 rfl) rfl
theorem q1239 : (Jvm.Cond.code ({ cls := "HairProvince", name := "learn", desc := "(II)I" } : Jvm.MethodName) prog_1_method_42_code (4 : Nat) (Option.some Jvm.ClassFile.FieldType.int)) ∈ lw_all := lw_g (lw_at lw_m5 105 rfl) rfl
theorem q1241 : (Jvm.Cond.instanceMethod ({ cls := "HairProvince", name := "cut", desc := "(II)I" } : Jvm.MethodName)) ∈ lw_all := lw_g (lw_at lw_m5 107 rfl) rfl
theorem q1242 : (Jvm.Cond.selects "HairProvince" ({ cls := "HairProvince", name := "cut", desc := "(II)I" } : Jvm.MethodName) ({ cls := "HairProvince", name := "cut", desc := "(II)I" } : Jvm.MethodName)) ∈ lw_all := lw_g (lw_at lw_m5 108 rfl) rfl
theorem q1243 : (Jvm.Cond.code ({ cls := "HairProvince", name := "cut", desc := "(II)I" } : Jvm.MethodName) prog_1_method_43_code (4 : Nat) (Option.some Jvm.ClassFile.FieldType.int)) ∈ lw_all := lw_g (lw_at lw_m5 109 rfl) rfl
theorem q1244 : (Jvm.Cond.methodLink "HairProvince" (329 : Nat) ({ cls := "HairProvince$Province", name := "cuts", desc := "(II)I" } : Jvm.MethodName)) ∈ lw_all := lw_g (lw_at lw_m5 110 rfl) rfl
theorem q1250 : (Jvm.Cond.instanceMethod ({ cls := "HairProvince", name := "train", desc := "(II)Z" } : Jvm.MethodName)) ∈ lw_all := lw_g (lw_at lw_m5 116 rfl) rfl
theorem q1251 : (Jvm.Cond.selects "HairProvince" ({ cls := "HairProvince", name := "train", desc := "(II)Z" } : Jvm.MethodName) ({ cls := "HairProvince", name := "train", desc := "(II)Z" } : Jvm.MethodName)) ∈ lw_all := lw_g (lw_at lw_m5 117 rfl) rfl
theorem q1252 : (Jvm.Cond.code ({ cls := "HairProvince", name := "train", desc := "(II)Z" } : Jvm.MethodName) prog_1_method_44_code (3 : Nat) (Option.some Jvm.ClassFile.FieldType.boolean)) ∈ lw_all := lw_g (lw_at lw_m5 118 rfl) rfl
theorem q1253 : (Jvm.Cond.constantLong "HairProvince" (331 : Nat) (999 : Int64)) ∈ lw_all := lw_g (lw_at lw_m5 119 rfl) rfl
theorem q1255 : (Jvm.Cond.instanceMethod ({ cls := "HairProvince", name := "trade", desc := "(IZ)Z" } : Jvm.MethodName)) ∈ lw_all := lw_g (lw_at lw_m5 121 rfl) rfl
theorem q1256 : (Jvm.Cond.selects "HairProvince" ({ cls := "HairProvince", name := "trade", desc := "(IZ)Z" } : Jvm.MethodName) ({ cls := "HairProvince", name := "trade", desc := "(IZ)Z" } : Jvm.MethodName)) ∈ lw_all := lw_g (lw_at lw_m5 122 rfl) rfl
theorem q1257 : (Jvm.Cond.code ({ cls := "HairProvince", name := "trade", desc := "(IZ)Z" } : Jvm.MethodName) prog_1_method_45_code (4 : Nat) (Option.some Jvm.ClassFile.FieldType.boolean)) ∈ lw_all := lw_g (lw_at lw_m5 123 rfl) rfl
theorem q1259 : (Jvm.Cond.instanceMethod ({ cls := "HairProvince", name := "rule", desc := "(II)Z" } : Jvm.MethodName)) ∈ lw_all := lw_g (lw_at lw_m5 125 rfl) rfl
theorem q1260 : (Jvm.Cond.selects "HairProvince" ({ cls := "HairProvince", name := "rule", desc := "(II)Z" } : Jvm.MethodName) ({ cls := "HairProvince", name := "rule", desc := "(II)Z" } : Jvm.MethodName)) ∈ lw_all := lw_g (lw_at lw_m5 126 rfl) rfl
theorem q1261 : (Jvm.Cond.code ({ cls := "HairProvince", name := "rule", desc := "(II)Z" } : Jvm.MethodName) prog_1_method_46_code (3 : Nat) (Option.some Jvm.ClassFile.FieldType.boolean)) ∈ lw_all := lw_g (lw_at lw_m5 127 rfl) rfl
theorem q1262 : (Jvm.Cond.constantLong "HairProvince" (333 : Nat) (16 : Int64)) ∈ lw_all := lw_g (lw_at lw_m5 128 rfl) rfl
theorem q1264 : (Jvm.Cond.instanceMethod ({ cls := "HairProvince", name := "invite", desc := "(III)I" } : Jvm.MethodName)) ∈ lw_all := lw_g (lw_at lw_m5 130 rfl) rfl
theorem q1265 : (Jvm.Cond.selects "HairProvince" ({ cls := "HairProvince", name := "invite", desc := "(III)I" } : Jvm.MethodName) ({ cls := "HairProvince", name := "invite", desc := "(III)I" } : Jvm.MethodName)) ∈ lw_all := lw_g (lw_at lw_m5 131 rfl) rfl
theorem q1266 : (Jvm.Cond.code ({ cls := "HairProvince", name := "invite", desc := "(III)I" } : Jvm.MethodName) prog_1_method_47_code (4 : Nat) (Option.some Jvm.ClassFile.FieldType.int)) ∈ lw_all := lw_g (lw_at lw_m5 132 rfl) rfl
theorem q1267 : (Jvm.Cond.constantLong "HairProvince" (335 : Nat) (30 : Int64)) ∈ lw_all := lw_g (lw_at lw_m5 133 rfl) rfl
theorem q1268 : (Jvm.Cond.classLink "HairProvince" (296 : Nat) "HairProvince$Dinner") ∈ lw_all := lw_g (lw_at lw_m5 134 rfl) rfl
theorem q1269 : (Jvm.Cond.methodLink "HairProvince" (337 : Nat) ({ cls := "HairProvince$Dinner", name := "<init>", desc := "(III)V" } : Jvm.MethodName)) ∈ lw_all := lw_g (lw_at lw_m5 135 rfl) rfl
theorem q1271 : (Jvm.Cond.instanceMethod ({ cls := "HairProvince", name := "cancel", desc := "()I" } : Jvm.MethodName)) ∈ lw_all := lw_g (lw_at lw_m5 137 rfl) rfl
theorem q1272 : (Jvm.Cond.selects "HairProvince" ({ cls := "HairProvince", name := "cancel", desc := "()I" } : Jvm.MethodName) ({ cls := "HairProvince", name := "cancel", desc := "()I" } : Jvm.MethodName)) ∈ lw_all := lw_g (lw_at lw_m5 138 rfl) rfl
theorem q1273 : (Jvm.Cond.code ({ cls := "HairProvince", name := "cancel", desc := "()I" } : Jvm.MethodName) prog_1_method_48_code (1 : Nat) (Option.some Jvm.ClassFile.FieldType.int)) ∈ lw_all := lw_g (lw_at lw_m5 139 rfl) rfl
theorem q1275 : (Jvm.Cond.instanceMethod ({ cls := "HairProvince", name := "hairIn", desc := "(II)I" } : Jvm.MethodName)) ∈ lw_all := lw_g (lw_at lw_m5 141 rfl) rfl
theorem q1276 : (Jvm.Cond.selects "HairProvince" ({ cls := "HairProvince", name := "hairIn", desc := "(II)I" } : Jvm.MethodName) ({ cls := "HairProvince", name := "hairIn", desc := "(II)I" } : Jvm.MethodName)) ∈ lw_all := lw_g (lw_at lw_m5 142 rfl) rfl
theorem q1277 : (Jvm.Cond.code ({ cls := "HairProvince", name := "hairIn", desc := "(II)I" } : Jvm.MethodName) prog_1_method_50_code (3 : Nat) (Option.some Jvm.ClassFile.FieldType.int)) ∈ lw_all := lw_g (lw_at lw_m5 143 rfl) rfl
theorem q1278 : (Jvm.Cond.methodLink "HairProvince" (343 : Nat) ({ cls := "HairProvince", name := "isSpan", desc := "(I)Z" } : Jvm.MethodName)) ∈ lw_all := lw_g (lw_at lw_m5 144 rfl) rfl
theorem q1279 : (Jvm.Cond.static ({ cls := "HairProvince", name := "isSpan", desc := "(I)Z" } : Jvm.MethodName)) ∈ lw_all := lw_g (lw_at lw_m5 145 rfl) rfl
theorem q1280 : (Jvm.Cond.code ({ cls := "HairProvince", name := "isSpan", desc := "(I)Z" } : Jvm.MethodName) prog_1_method_23_code (1 : Nat) (Option.some Jvm.ClassFile.FieldType.boolean)) ∈ lw_all := lw_g (lw_at lw_m5 146 rfl) rfl
theorem q1281 : (Jvm.Cond.constantLong "HairProvince" (166 : Nat) (200 : Int64)) ∈ lw_all := lw_g (lw_at lw_m5 147 rfl) rfl
theorem q1282 : (Jvm.Cond.methodLink "HairProvince" (346 : Nat) ({ cls := "HairProvince", name := "in", desc := "(I)LHairProvince$Province;" } : Jvm.MethodName)) ∈ lw_all := lw_g (lw_at lw_m5 148 rfl) rfl
theorem q1283 : (Jvm.Cond.privateMethod ({ cls := "HairProvince", name := "in", desc := "(I)LHairProvince$Province;" } : Jvm.MethodName)) ∈ lw_tbl := lw_at lw_m5 149 rfl
theorem q1284 : (Jvm.Cond.instanceMethod ({ cls := "HairProvince", name := "in", desc := "(I)LHairProvince$Province;" } : Jvm.MethodName)) ∈ lw_all := lw_g (lw_at lw_m5 150 rfl) rfl
theorem q1285 : (Jvm.Cond.code ({ cls := "HairProvince", name := "in", desc := "(I)LHairProvince$Province;" } : Jvm.MethodName) prog_1_method_49_code (2 : Nat) (Option.some (Jvm.ClassFile.FieldType.object "HairProvince$Province"))) ∈ lw_all := lw_g (lw_at lw_m5 151 rfl) rfl
theorem q1286 : (Jvm.Cond.methodLink "HairProvince" (340 : Nat) ({ cls := "HairProvince$Province", name := "twin", desc := "()LHairProvince$Province;" } : Jvm.MethodName)) ∈ lw_all := lw_g (lw_at lw_m5 152 rfl) rfl
theorem q1310 : (Jvm.Cond.instanceMethod ({ cls := "HairProvince", name := "knownIn", desc := "(II)I" } : Jvm.MethodName)) ∈ lw_all := lw_g (lw_at lw_m5 176 rfl) rfl
theorem q1311 : (Jvm.Cond.selects "HairProvince" ({ cls := "HairProvince", name := "knownIn", desc := "(II)I" } : Jvm.MethodName) ({ cls := "HairProvince", name := "knownIn", desc := "(II)I" } : Jvm.MethodName)) ∈ lw_all := lw_g (lw_at lw_m5 177 rfl) rfl
theorem q1312 : (Jvm.Cond.code ({ cls := "HairProvince", name := "knownIn", desc := "(II)I" } : Jvm.MethodName) prog_1_method_51_code (3 : Nat) (Option.some Jvm.ClassFile.FieldType.int)) ∈ lw_all := lw_g (lw_at lw_m5 178 rfl) rfl
theorem q1314 : (Jvm.Cond.instanceMethod ({ cls := "HairProvince", name := "out", desc := "(I)I" } : Jvm.MethodName)) ∈ lw_all := lw_g (lw_at lw_m5 180 rfl) rfl
theorem q1315 : (Jvm.Cond.selects "HairProvince" ({ cls := "HairProvince", name := "out", desc := "(I)I" } : Jvm.MethodName) ({ cls := "HairProvince", name := "out", desc := "(I)I" } : Jvm.MethodName)) ∈ lw_all := lw_g (lw_at lw_m5 181 rfl) rfl
theorem q1316 : (Jvm.Cond.code ({ cls := "HairProvince", name := "out", desc := "(I)I" } : Jvm.MethodName) prog_1_method_52_code (4 : Nat) (Option.some Jvm.ClassFile.FieldType.int)) ∈ lw_all := lw_g (lw_at lw_m5 182 rfl) rfl
theorem q1317 : (Jvm.Cond.methodLink "HairProvince" (349 : Nat) ({ cls := "HairProvince$Province", name := "day", desc := "()V" } : Jvm.MethodName)) ∈ lw_all := lw_g (lw_at lw_m5 183 rfl) rfl
theorem q1319 : (Jvm.Cond.instanceMethod ({ cls := "HairProvince", name := "learnsIn", desc := "(II)I" } : Jvm.MethodName)) ∈ lw_all := lw_g (lw_at lw_m5 185 rfl) rfl
theorem q1320 : (Jvm.Cond.selects "HairProvince" ({ cls := "HairProvince", name := "learnsIn", desc := "(II)I" } : Jvm.MethodName) ({ cls := "HairProvince", name := "learnsIn", desc := "(II)I" } : Jvm.MethodName)) ∈ lw_all := lw_g (lw_at lw_m5 186 rfl) rfl
theorem q1321 : (Jvm.Cond.code ({ cls := "HairProvince", name := "learnsIn", desc := "(II)I" } : Jvm.MethodName) prog_1_method_53_code (5 : Nat) (Option.some Jvm.ClassFile.FieldType.int)) ∈ lw_all := lw_g (lw_at lw_m5 187 rfl) rfl
theorem q1323 : (Jvm.Cond.instanceMethod ({ cls := "HairProvince", name := "wildIn", desc := "(I)I" } : Jvm.MethodName)) ∈ lw_all := lw_g (lw_at lw_m5 189 rfl) rfl
theorem q1324 : (Jvm.Cond.selects "HairProvince" ({ cls := "HairProvince", name := "wildIn", desc := "(I)I" } : Jvm.MethodName) ({ cls := "HairProvince", name := "wildIn", desc := "(I)I" } : Jvm.MethodName)) ∈ lw_all := lw_g (lw_at lw_m5 190 rfl) rfl
theorem q1325 : (Jvm.Cond.code ({ cls := "HairProvince", name := "wildIn", desc := "(I)I" } : Jvm.MethodName) prog_1_method_54_code (4 : Nat) (Option.some Jvm.ClassFile.FieldType.int)) ∈ lw_all := lw_g (lw_at lw_m5 191 rfl) rfl
theorem q1327 : (Jvm.Cond.instanceMethod ({ cls := "HairProvince", name := "dinesIn", desc := "(I)I" } : Jvm.MethodName)) ∈ lw_all := lw_g (lw_at lw_m5 193 rfl) rfl
theorem q1328 : (Jvm.Cond.selects "HairProvince" ({ cls := "HairProvince", name := "dinesIn", desc := "(I)I" } : Jvm.MethodName) ({ cls := "HairProvince", name := "dinesIn", desc := "(I)I" } : Jvm.MethodName)) ∈ lw_all := lw_g (lw_at lw_m5 194 rfl) rfl
theorem q1329 : (Jvm.Cond.code ({ cls := "HairProvince", name := "dinesIn", desc := "(I)I" } : Jvm.MethodName) prog_1_method_55_code (6 : Nat) (Option.some Jvm.ClassFile.FieldType.int)) ∈ lw_all := lw_g (lw_at lw_m5 195 rfl) rfl
theorem q1330 : (Jvm.Cond.methodLink "HairProvince" (351 : Nat) ({ cls := "HairProvince$Dinner", name := "isOf", desc := "(I)Z" } : Jvm.MethodName)) ∈ lw_all := lw_g (lw_at lw_m5 196 rfl) rfl
theorem q1335 : (Jvm.Cond.instanceMethod ({ cls := "HairProvince", name := "quiet", desc := "(II)I" } : Jvm.MethodName)) ∈ lw_all := lw_g (lw_at lw_m5 201 rfl) rfl
theorem q1336 : (Jvm.Cond.selects "HairProvince" ({ cls := "HairProvince", name := "quiet", desc := "(II)I" } : Jvm.MethodName) ({ cls := "HairProvince", name := "quiet", desc := "(II)I" } : Jvm.MethodName)) ∈ lw_all := lw_g (lw_at lw_m5 202 rfl) rfl
theorem q1337 : (Jvm.Cond.code ({ cls := "HairProvince", name := "quiet", desc := "(II)I" } : Jvm.MethodName) prog_1_method_58_code (3 : Nat) (Option.some Jvm.ClassFile.FieldType.int)) ∈ lw_all := lw_g (lw_at lw_m5 203 rfl) rfl
theorem q1338 : (Jvm.Cond.methodLink "HairProvince" (361 : Nat) ({ cls := "HairProvince", name := "quietOf", desc := "(LHairProvince$Person;I)I" } : Jvm.MethodName)) ∈ lw_all := lw_g (lw_at lw_m5 204 rfl) rfl
theorem q1339 : (Jvm.Cond.privateMethod ({ cls := "HairProvince", name := "quietOf", desc := "(LHairProvince$Person;I)I" } : Jvm.MethodName)) ∈ lw_tbl := lw_at lw_m5 205 rfl
theorem q1340 : (Jvm.Cond.instanceMethod ({ cls := "HairProvince", name := "quietOf", desc := "(LHairProvince$Person;I)I" } : Jvm.MethodName)) ∈ lw_all := lw_g (lw_at lw_m5 206 rfl) rfl
theorem q1341 : (Jvm.Cond.code ({ cls := "HairProvince", name := "quietOf", desc := "(LHairProvince$Person;I)I" } : Jvm.MethodName) prog_1_method_57_code (6 : Nat) (Option.some Jvm.ClassFile.FieldType.int)) ∈ lw_all := lw_g (lw_at lw_m5 207 rfl) rfl
theorem q1342 : (Jvm.Cond.methodLink "HairProvince" (357 : Nat) ({ cls := "HairProvince", name := "hairOf", desc := "(LHairProvince$Person;II)I" } : Jvm.MethodName)) ∈ lw_all := lw_g (lw_at lw_m5 208 rfl) rfl
theorem q1343 : (Jvm.Cond.privateMethod ({ cls := "HairProvince", name := "hairOf", desc := "(LHairProvince$Person;II)I" } : Jvm.MethodName)) ∈ lw_tbl := lw_at lw_m5 209 rfl
theorem q1344 : (Jvm.Cond.instanceMethod ({ cls := "HairProvince", name := "hairOf", desc := "(LHairProvince$Person;II)I" } : Jvm.MethodName)) ∈ lw_all := lw_g (lw_at lw_m5 210 rfl) rfl
theorem q1345 : (Jvm.Cond.code ({ cls := "HairProvince", name := "hairOf", desc := "(LHairProvince$Person;II)I" } : Jvm.MethodName) prog_1_method_56_code (6 : Nat) (Option.some Jvm.ClassFile.FieldType.int)) ∈ lw_all := lw_g (lw_at lw_m5 211 rfl) rfl
theorem q1346 : (Jvm.Cond.methodLink "HairProvince" (354 : Nat) ({ cls := "HairProvince$Word", name := "moreIn", desc := "(II)I" } : Jvm.MethodName)) ∈ lw_all := lw_g (lw_at lw_m5 212 rfl) rfl
theorem q1348 : (Jvm.Cond.instanceMethod ({ cls := "HairProvince", name := "quietHair", desc := "(II)I" } : Jvm.MethodName)) ∈ lw_all := lw_g (lw_at lw_m5 214 rfl) rfl
theorem q1349 : (Jvm.Cond.selects "HairProvince" ({ cls := "HairProvince", name := "quietHair", desc := "(II)I" } : Jvm.MethodName) ({ cls := "HairProvince", name := "quietHair", desc := "(II)I" } : Jvm.MethodName)) ∈ lw_all := lw_g (lw_at lw_m5 215 rfl) rfl
theorem q1350 : (Jvm.Cond.code ({ cls := "HairProvince", name := "quietHair", desc := "(II)I" } : Jvm.MethodName) prog_1_method_59_code (4 : Nat) (Option.some Jvm.ClassFile.FieldType.int)) ∈ lw_all := lw_g (lw_at lw_m5 216 rfl) rfl
theorem q1352 : (Jvm.Cond.instanceMethod ({ cls := "HairProvince", name := "unsaid", desc := "(II)I" } : Jvm.MethodName)) ∈ lw_all := lw_g (lw_at lw_m5 218 rfl) rfl
theorem q1353 : (Jvm.Cond.selects "HairProvince" ({ cls := "HairProvince", name := "unsaid", desc := "(II)I" } : Jvm.MethodName) ({ cls := "HairProvince", name := "unsaid", desc := "(II)I" } : Jvm.MethodName)) ∈ lw_all := lw_g (lw_at lw_m5 219 rfl) rfl
theorem q1354 : (Jvm.Cond.code ({ cls := "HairProvince", name := "unsaid", desc := "(II)I" } : Jvm.MethodName) prog_1_method_65_code (4 : Nat) (Option.some Jvm.ClassFile.FieldType.int)) ∈ lw_all := lw_g (lw_at lw_m5 220 rfl) rfl
theorem q1355 : (Jvm.Cond.methodLink "HairProvince" (384 : Nat) ({ cls := "HairProvince", name := "wrongUnsaid", desc := "(II)I" } : Jvm.MethodName)) ∈ lw_all := lw_g (lw_at lw_m5 221 rfl) rfl
theorem q1356 : (Jvm.Cond.privateMethod ({ cls := "HairProvince", name := "wrongUnsaid", desc := "(II)I" } : Jvm.MethodName)) ∈ lw_tbl := lw_at lw_m5 222 rfl
theorem q1357 : (Jvm.Cond.instanceMethod ({ cls := "HairProvince", name := "wrongUnsaid", desc := "(II)I" } : Jvm.MethodName)) ∈ lw_all := lw_g (lw_at lw_m5 223 rfl) rfl
theorem q1358 : (Jvm.Cond.code ({ cls := "HairProvince", name := "wrongUnsaid", desc := "(II)I" } : Jvm.MethodName) prog_1_method_62_code (3 : Nat) (Option.some Jvm.ClassFile.FieldType.int)) ∈ lw_all := lw_g (lw_at lw_m5 224 rfl) rfl
theorem q1359 : (Jvm.Cond.constantLong "HairProvince" (372 : Nat) (9223372036854775807 : Int64)) ∈ lw_all := lw_g (lw_at lw_m5 225 rfl) rfl
theorem q1360 : (Jvm.Cond.methodLink "HairProvince" (374 : Nat) ({ cls := "HairProvince", name := "wrongTwos", desc := "(IIIJ)I" } : Jvm.MethodName)) ∈ lw_all := lw_g (lw_at lw_m5 226 rfl) rfl
theorem q1361 : (Jvm.Cond.privateMethod ({ cls := "HairProvince", name := "wrongTwos", desc := "(IIIJ)I" } : Jvm.MethodName)) ∈ lw_tbl := lw_at lw_m5 227 rfl
theorem q1362 : (Jvm.Cond.instanceMethod ({ cls := "HairProvince", name := "wrongTwos", desc := "(IIIJ)I" } : Jvm.MethodName)) ∈ lw_all := lw_g (lw_at lw_m5 228 rfl) rfl
theorem q1363 : (Jvm.Cond.code ({ cls := "HairProvince", name := "wrongTwos", desc := "(IIIJ)I" } : Jvm.MethodName) prog_1_method_61_code (8 : Nat) (Option.some Jvm.ClassFile.FieldType.int)) ∈ lw_all := lw_g (lw_at lw_m5 229 rfl) rfl
theorem q1364 : (Jvm.Cond.constantLong "HairProvince" (368 : Nat) (2 : Int64)) ∈ lw_all := lw_g (lw_at lw_m5 230 rfl) rfl
theorem q1365 : (Jvm.Cond.constantLong "HairProvince" (370 : Nat) (20 : Int64)) ∈ lw_all := lw_g (lw_at lw_m5 231 rfl) rfl
theorem q1366 : (Jvm.Cond.methodLink "HairProvince" (387 : Nat) ({ cls := "HairProvince", name := "setsOf", desc := "(II)I" } : Jvm.MethodName)) ∈ lw_all := lw_g (lw_at lw_m5 232 rfl) rfl
theorem q1367 : (Jvm.Cond.privateMethod ({ cls := "HairProvince", name := "setsOf", desc := "(II)I" } : Jvm.MethodName)) ∈ lw_tbl := lw_at lw_m5 233 rfl
theorem q1368 : (Jvm.Cond.instanceMethod ({ cls := "HairProvince", name := "setsOf", desc := "(II)I" } : Jvm.MethodName)) ∈ lw_all := lw_g (lw_at lw_m5 234 rfl) rfl
theorem q1369 : (Jvm.Cond.code ({ cls := "HairProvince", name := "setsOf", desc := "(II)I" } : Jvm.MethodName) prog_1_method_64_code (5 : Nat) (Option.some Jvm.ClassFile.FieldType.int)) ∈ lw_all := lw_g (lw_at lw_m5 235 rfl) rfl
theorem q1370 : (Jvm.Cond.methodLink "HairProvince" (158 : Nat) ({ cls := "HairProvince$Province", name := "allWords", desc := "()I" } : Jvm.MethodName)) ∈ lw_all := lw_g (lw_at lw_m5 236 rfl) rfl
theorem q1374 : (Jvm.Cond.methodLink "HairProvince" (381 : Nat) ({ cls := "HairProvince", name := "canBe", desc := "(III)Z" } : Jvm.MethodName)) ∈ lw_all := lw_g (lw_at lw_m6 0 rfl) rfl
theorem q1375 : (Jvm.Cond.privateMethod ({ cls := "HairProvince", name := "canBe", desc := "(III)Z" } : Jvm.MethodName)) ∈ lw_tbl := lw_at lw_m6 1 rfl
theorem q1376 : (Jvm.Cond.instanceMethod ({ cls := "HairProvince", name := "canBe", desc := "(III)Z" } : Jvm.MethodName)) ∈ lw_all := lw_g (lw_at lw_m6 2 rfl) rfl
theorem q1377 : (Jvm.Cond.code ({ cls := "HairProvince", name := "canBe", desc := "(III)Z" } : Jvm.MethodName) prog_1_method_63_code (6 : Nat) (Option.some Jvm.ClassFile.FieldType.boolean)) ∈ lw_all := lw_g (lw_at lw_m6 3 rfl) rfl
theorem q1378 : (Jvm.Cond.methodLink "HairProvince" (378 : Nat) ({ cls := "HairProvince", name := "lengthBy", desc := "(II)I" } : Jvm.MethodName)) ∈ lw_all := lw_g (lw_at lw_m6 4 rfl) rfl
theorem q1379 : (Jvm.Cond.privateMethod ({ cls := "HairProvince", name := "lengthBy", desc := "(II)I" } : Jvm.MethodName)) ∈ lw_tbl := lw_at lw_m6 5 rfl
theorem q1380 : (Jvm.Cond.instanceMethod ({ cls := "HairProvince", name := "lengthBy", desc := "(II)I" } : Jvm.MethodName)) ∈ lw_all := lw_g (lw_at lw_m6 6 rfl) rfl
theorem q1381 : (Jvm.Cond.code ({ cls := "HairProvince", name := "lengthBy", desc := "(II)I" } : Jvm.MethodName) prog_1_method_60_code (5 : Nat) (Option.some Jvm.ClassFile.FieldType.int)) ∈ lw_all := lw_g (lw_at lw_m6 7 rfl) rfl
theorem q1382 : (Jvm.Cond.methodLink "HairProvince" (365 : Nat) ({ cls := "HairProvince$Word", name := "lengthIn", desc := "(I)I" } : Jvm.MethodName)) ∈ lw_all := lw_g (lw_at lw_m6 8 rfl) rfl
theorem q1387 : (Jvm.Cond.instanceMethod ({ cls := "HairProvince", name := "sure", desc := "(II)I" } : Jvm.MethodName)) ∈ lw_all := lw_g (lw_at lw_m6 13 rfl) rfl
theorem q1388 : (Jvm.Cond.selects "HairProvince" ({ cls := "HairProvince", name := "sure", desc := "(II)I" } : Jvm.MethodName) ({ cls := "HairProvince", name := "sure", desc := "(II)I" } : Jvm.MethodName)) ∈ lw_all := lw_g (lw_at lw_m6 14 rfl) rfl
theorem q1389 : (Jvm.Cond.code ({ cls := "HairProvince", name := "sure", desc := "(II)I" } : Jvm.MethodName) prog_1_method_66_code (6 : Nat) (Option.some Jvm.ClassFile.FieldType.int)) ∈ lw_all := lw_g (lw_at lw_m6 15 rfl) rfl
theorem q1391 : (Jvm.Cond.instanceMethod ({ cls := "HairProvince", name := "ask", desc := "(II)I" } : Jvm.MethodName)) ∈ lw_all := lw_g (lw_at lw_m6 17 rfl) rfl
theorem q1392 : (Jvm.Cond.selects "HairProvince" ({ cls := "HairProvince", name := "ask", desc := "(II)I" } : Jvm.MethodName) ({ cls := "HairProvince", name := "ask", desc := "(II)I" } : Jvm.MethodName)) ∈ lw_all := lw_g (lw_at lw_m6 18 rfl) rfl
theorem q1393 : (Jvm.Cond.code ({ cls := "HairProvince", name := "ask", desc := "(II)I" } : Jvm.MethodName) prog_1_method_68_code (8 : Nat) (Option.some Jvm.ClassFile.FieldType.int)) ∈ lw_all := lw_g (lw_at lw_m6 19 rfl) rfl
theorem q1394 : (Jvm.Cond.methodLink "HairProvince" (390 : Nat) ({ cls := "HairProvince", name := "unlikeIn", desc := "(III)I" } : Jvm.MethodName)) ∈ lw_all := lw_g (lw_at lw_m6 20 rfl) rfl
theorem q1395 : (Jvm.Cond.privateMethod ({ cls := "HairProvince", name := "unlikeIn", desc := "(III)I" } : Jvm.MethodName)) ∈ lw_tbl := lw_at lw_m6 21 rfl
theorem q1396 : (Jvm.Cond.instanceMethod ({ cls := "HairProvince", name := "unlikeIn", desc := "(III)I" } : Jvm.MethodName)) ∈ lw_all := lw_g (lw_at lw_m6 22 rfl) rfl
theorem q1397 : (Jvm.Cond.code ({ cls := "HairProvince", name := "unlikeIn", desc := "(III)I" } : Jvm.MethodName) prog_1_method_67_code (6 : Nat) (Option.some Jvm.ClassFile.FieldType.int)) ∈ lw_all := lw_g (lw_at lw_m6 23 rfl) rfl
theorem q1399 : (Jvm.Cond.instanceMethod ({ cls := "HairProvince", name := "lengthOf", desc := "(II)I" } : Jvm.MethodName)) ∈ lw_all := lw_g (lw_at lw_m6 25 rfl) rfl
theorem q1400 : (Jvm.Cond.selects "HairProvince" ({ cls := "HairProvince", name := "lengthOf", desc := "(II)I" } : Jvm.MethodName) ({ cls := "HairProvince", name := "lengthOf", desc := "(II)I" } : Jvm.MethodName)) ∈ lw_all := lw_g (lw_at lw_m6 26 rfl) rfl
theorem q1401 : (Jvm.Cond.code ({ cls := "HairProvince", name := "lengthOf", desc := "(II)I" } : Jvm.MethodName) prog_1_method_69_code (3 : Nat) (Option.some Jvm.ClassFile.FieldType.int)) ∈ lw_all := lw_g (lw_at lw_m6 27 rfl) rfl
theorem q1402 : (Jvm.Cond.methodLink "HairProvince" (394 : Nat) ({ cls := "HairProvince", name := "areWords", desc := "(J)Z" } : Jvm.MethodName)) ∈ lw_all := lw_g (lw_at lw_m6 28 rfl) rfl
theorem q1403 : (Jvm.Cond.privateMethod ({ cls := "HairProvince", name := "areWords", desc := "(J)Z" } : Jvm.MethodName)) ∈ lw_tbl := lw_at lw_m6 29 rfl
theorem q1404 : (Jvm.Cond.instanceMethod ({ cls := "HairProvince", name := "areWords", desc := "(J)Z" } : Jvm.MethodName)) ∈ lw_all := lw_g (lw_at lw_m6 30 rfl) rfl
theorem q1405 : (Jvm.Cond.code ({ cls := "HairProvince", name := "areWords", desc := "(J)Z" } : Jvm.MethodName) prog_1_method_21_code (3 : Nat) (Option.some Jvm.ClassFile.FieldType.boolean)) ∈ lw_all := lw_g (lw_at lw_m6 31 rfl) rfl
theorem q1407 : (Jvm.Cond.instanceMethod ({ cls := "HairProvince", name := "daysFor", desc := "(II)I" } : Jvm.MethodName)) ∈ lw_all := lw_g (lw_at lw_m6 33 rfl) rfl
theorem q1408 : (Jvm.Cond.selects "HairProvince" ({ cls := "HairProvince", name := "daysFor", desc := "(II)I" } : Jvm.MethodName) ({ cls := "HairProvince", name := "daysFor", desc := "(II)I" } : Jvm.MethodName)) ∈ lw_all := lw_g (lw_at lw_m6 34 rfl) rfl
theorem q1409 : (Jvm.Cond.code ({ cls := "HairProvince", name := "daysFor", desc := "(II)I" } : Jvm.MethodName) prog_1_method_70_code (4 : Nat) (Option.some Jvm.ClassFile.FieldType.int)) ∈ lw_all := lw_g (lw_at lw_m6 35 rfl) rfl
theorem q1410 : (Jvm.Cond.constantLong "HairProvince" (398 : Nat) (9999 : Int64)) ∈ lw_all := lw_g (lw_at lw_m6 36 rfl) rfl
theorem q1412 : (Jvm.Cond.instanceMethod ({ cls := "HairProvince", name := "round", desc := "(I)I" } : Jvm.MethodName)) ∈ lw_all := lw_g (lw_at lw_m6 38 rfl) rfl
theorem q1413 : (Jvm.Cond.selects "HairProvince" ({ cls := "HairProvince", name := "round", desc := "(I)I" } : Jvm.MethodName) ({ cls := "HairProvince", name := "round", desc := "(I)I" } : Jvm.MethodName)) ∈ lw_all := lw_g (lw_at lw_m6 39 rfl) rfl
theorem q1414 : (Jvm.Cond.code ({ cls := "HairProvince", name := "round", desc := "(I)I" } : Jvm.MethodName) prog_1_method_74_code (3 : Nat) (Option.some Jvm.ClassFile.FieldType.int)) ∈ lw_all := lw_g (lw_at lw_m6 40 rfl) rfl
theorem q1415 : (Jvm.Cond.methodLink "HairProvince" (417 : Nat) ({ cls := "HairProvince", name := "arePeople", desc := "(J)Z" } : Jvm.MethodName)) ∈ lw_all := lw_g (lw_at lw_m6 41 rfl) rfl
theorem q1416 : (Jvm.Cond.privateMethod ({ cls := "HairProvince", name := "arePeople", desc := "(J)Z" } : Jvm.MethodName)) ∈ lw_tbl := lw_at lw_m6 42 rfl
theorem q1417 : (Jvm.Cond.instanceMethod ({ cls := "HairProvince", name := "arePeople", desc := "(J)Z" } : Jvm.MethodName)) ∈ lw_all := lw_g (lw_at lw_m6 43 rfl) rfl
theorem q1418 : (Jvm.Cond.code ({ cls := "HairProvince", name := "arePeople", desc := "(J)Z" } : Jvm.MethodName) prog_1_method_22_code (3 : Nat) (Option.some Jvm.ClassFile.FieldType.boolean)) ∈ lw_all := lw_g (lw_at lw_m6 44 rfl) rfl
theorem q1419 : (Jvm.Cond.methodLink "HairProvince" (406 : Nat) ({ cls := "HairProvince", name := "canCut", desc := "(I)Z" } : Jvm.MethodName)) ∈ lw_all := lw_g (lw_at lw_m6 45 rfl) rfl
theorem q1420 : (Jvm.Cond.privateMethod ({ cls := "HairProvince", name := "canCut", desc := "(I)Z" } : Jvm.MethodName)) ∈ lw_tbl := lw_at lw_m6 46 rfl
theorem q1421 : (Jvm.Cond.instanceMethod ({ cls := "HairProvince", name := "canCut", desc := "(I)Z" } : Jvm.MethodName)) ∈ lw_all := lw_g (lw_at lw_m6 47 rfl) rfl
theorem q1422 : (Jvm.Cond.code ({ cls := "HairProvince", name := "canCut", desc := "(I)Z" } : Jvm.MethodName) prog_1_method_72_code (2 : Nat) (Option.some Jvm.ClassFile.FieldType.boolean)) ∈ lw_all := lw_g (lw_at lw_m6 48 rfl) rfl
theorem q1423 : (Jvm.Cond.methodLink "HairProvince" (400 : Nat) ({ cls := "HairProvince", name := "wordsOf", desc := "(I)I" } : Jvm.MethodName)) ∈ lw_all := lw_g (lw_at lw_m6 49 rfl) rfl
theorem q1424 : (Jvm.Cond.privateMethod ({ cls := "HairProvince", name := "wordsOf", desc := "(I)I" } : Jvm.MethodName)) ∈ lw_tbl := lw_at lw_m6 50 rfl
theorem q1425 : (Jvm.Cond.instanceMethod ({ cls := "HairProvince", name := "wordsOf", desc := "(I)I" } : Jvm.MethodName)) ∈ lw_all := lw_g (lw_at lw_m6 51 rfl) rfl
theorem q1426 : (Jvm.Cond.code ({ cls := "HairProvince", name := "wordsOf", desc := "(I)I" } : Jvm.MethodName) prog_1_method_71_code (4 : Nat) (Option.some Jvm.ClassFile.FieldType.int)) ∈ lw_all := lw_g (lw_at lw_m6 52 rfl) rfl
theorem q1427 : (Jvm.Cond.methodLink "HairProvince" (403 : Nat) ({ cls := "HairProvince$Province", name := "haveHalves", desc := "(I)Z" } : Jvm.MethodName)) ∈ lw_all := lw_g (lw_at lw_m6 53 rfl) rfl
theorem q1431 : (Jvm.Cond.methodLink "HairProvince" (409 : Nat) ({ cls := "HairProvince", name := "roundsOf", desc := "(I)I" } : Jvm.MethodName)) ∈ lw_all := lw_g (lw_at lw_m6 57 rfl) rfl
theorem q1432 : (Jvm.Cond.privateMethod ({ cls := "HairProvince", name := "roundsOf", desc := "(I)I" } : Jvm.MethodName)) ∈ lw_tbl := lw_at lw_m6 58 rfl
theorem q1433 : (Jvm.Cond.instanceMethod ({ cls := "HairProvince", name := "roundsOf", desc := "(I)I" } : Jvm.MethodName)) ∈ lw_all := lw_g (lw_at lw_m6 59 rfl) rfl
theorem q1434 : (Jvm.Cond.code ({ cls := "HairProvince", name := "roundsOf", desc := "(I)I" } : Jvm.MethodName) prog_1_method_73_code (6 : Nat) (Option.some Jvm.ClassFile.FieldType.int)) ∈ lw_all := lw_g (lw_at lw_m6 60 rfl) rfl
theorem q1435 : (Jvm.Cond.methodLink "HairProvince" (412 : Nat) ({ cls := "java/lang/Math", name := "min", desc := "(II)I" } : Jvm.MethodName)) ∈ lw_all := lw_g (lw_at lw_m6 61 rfl) rfl
theorem q1437 : (Jvm.Cond.instanceMethod ({ cls := "HairProvince", name := "oneRound", desc := "()I" } : Jvm.MethodName)) ∈ lw_all := lw_g (lw_at lw_m6 63 rfl) rfl
theorem q1438 : (Jvm.Cond.selects "HairProvince" ({ cls := "HairProvince", name := "oneRound", desc := "()I" } : Jvm.MethodName) ({ cls := "HairProvince", name := "oneRound", desc := "()I" } : Jvm.MethodName)) ∈ lw_all := lw_g (lw_at lw_m6 64 rfl) rfl
theorem q1439 : (Jvm.Cond.code ({ cls := "HairProvince", name := "oneRound", desc := "()I" } : Jvm.MethodName) prog_1_method_75_code (3 : Nat) (Option.some Jvm.ClassFile.FieldType.int)) ∈ lw_all := lw_g (lw_at lw_m6 65 rfl) rfl
theorem q1441 : (Jvm.Cond.instanceMethod ({ cls := "HairProvince", name := "plaits", desc := "(III)I" } : Jvm.MethodName)) ∈ lw_all := lw_g (lw_at lw_m6 67 rfl) rfl
theorem q1442 : (Jvm.Cond.selects "HairProvince" ({ cls := "HairProvince", name := "plaits", desc := "(III)I" } : Jvm.MethodName) ({ cls := "HairProvince", name := "plaits", desc := "(III)I" } : Jvm.MethodName)) ∈ lw_all := lw_g (lw_at lw_m6 68 rfl) rfl
theorem q1443 : (Jvm.Cond.code ({ cls := "HairProvince", name := "plaits", desc := "(III)I" } : Jvm.MethodName) prog_1_method_78_code (5 : Nat) (Option.some Jvm.ClassFile.FieldType.int)) ∈ lw_all := lw_g (lw_at lw_m6 69 rfl) rfl
theorem q1444 : (Jvm.Cond.methodLink "HairProvince" (420 : Nat) ({ cls := "HairProvince", name := "wrongPlait", desc := "(III)I" } : Jvm.MethodName)) ∈ lw_all := lw_g (lw_at lw_m6 70 rfl) rfl
theorem q1445 : (Jvm.Cond.privateMethod ({ cls := "HairProvince", name := "wrongPlait", desc := "(III)I" } : Jvm.MethodName)) ∈ lw_tbl := lw_at lw_m6 71 rfl
theorem q1446 : (Jvm.Cond.instanceMethod ({ cls := "HairProvince", name := "wrongPlait", desc := "(III)I" } : Jvm.MethodName)) ∈ lw_all := lw_g (lw_at lw_m6 72 rfl) rfl
theorem q1447 : (Jvm.Cond.code ({ cls := "HairProvince", name := "wrongPlait", desc := "(III)I" } : Jvm.MethodName) prog_1_method_76_code (5 : Nat) (Option.some Jvm.ClassFile.FieldType.int)) ∈ lw_all := lw_g (lw_at lw_m6 73 rfl) rfl
theorem q1448 : (Jvm.Cond.methodLink "HairProvince" (423 : Nat) ({ cls := "HairProvince", name := "laysOrders", desc := "(III)V" } : Jvm.MethodName)) ∈ lw_all := lw_g (lw_at lw_m6 74 rfl) rfl
theorem q1449 : (Jvm.Cond.privateMethod ({ cls := "HairProvince", name := "laysOrders", desc := "(III)V" } : Jvm.MethodName)) ∈ lw_tbl := lw_at lw_m6 75 rfl
theorem q1450 : (Jvm.Cond.instanceMethod ({ cls := "HairProvince", name := "laysOrders", desc := "(III)V" } : Jvm.MethodName)) ∈ lw_all := lw_g (lw_at lw_m6 76 rfl) rfl
theorem q1451 : (Jvm.Cond.code ({ cls := "HairProvince", name := "laysOrders", desc := "(III)V" } : Jvm.MethodName) prog_1_method_77_code (7 : Nat) (Option.none : Option Jvm.ClassFile.FieldType)) ∈ lw_all := lw_g (lw_at lw_m6 77 rfl) rfl
theorem q1453 : (Jvm.Cond.instanceMethod ({ cls := "HairProvince", name := "plaitAt", desc := "(IIII)I" } : Jvm.MethodName)) ∈ lw_all := lw_g (lw_at lw_m6 79 rfl) rfl
theorem q1454 : (Jvm.Cond.selects "HairProvince" ({ cls := "HairProvince", name := "plaitAt", desc := "(IIII)I" } : Jvm.MethodName) ({ cls := "HairProvince", name := "plaitAt", desc := "(IIII)I" } : Jvm.MethodName)) ∈ lw_all := lw_g (lw_at lw_m6 80 rfl) rfl
theorem q1455 : (Jvm.Cond.code ({ cls := "HairProvince", name := "plaitAt", desc := "(IIII)I" } : Jvm.MethodName) prog_1_method_79_code (9 : Nat) (Option.some Jvm.ClassFile.FieldType.int)) ∈ lw_all := lw_g (lw_at lw_m6 81 rfl) rfl
theorem q1457 : (Jvm.Cond.instanceMethod ({ cls := "HairProvince", name := "tellers", desc := "(II)I" } : Jvm.MethodName)) ∈ lw_all := lw_g (lw_at lw_m6 83 rfl) rfl
theorem q1458 : (Jvm.Cond.selects "HairProvince" ({ cls := "HairProvince", name := "tellers", desc := "(II)I" } : Jvm.MethodName) ({ cls := "HairProvince", name := "tellers", desc := "(II)I" } : Jvm.MethodName)) ∈ lw_all := lw_g (lw_at lw_m6 84 rfl) rfl
theorem q1459 : (Jvm.Cond.code ({ cls := "HairProvince", name := "tellers", desc := "(II)I" } : Jvm.MethodName) prog_1_method_82_code (3 : Nat) (Option.some Jvm.ClassFile.FieldType.int)) ∈ lw_all := lw_g (lw_at lw_m6 85 rfl) rfl
theorem q1460 : (Jvm.Cond.methodLink "HairProvince" (432 : Nat) ({ cls := "HairProvince", name := "guestsOf", desc := "(I)I" } : Jvm.MethodName)) ∈ lw_all := lw_g (lw_at lw_m6 86 rfl) rfl
theorem q1461 : (Jvm.Cond.privateMethod ({ cls := "HairProvince", name := "guestsOf", desc := "(I)I" } : Jvm.MethodName)) ∈ lw_tbl := lw_at lw_m6 87 rfl
theorem q1462 : (Jvm.Cond.instanceMethod ({ cls := "HairProvince", name := "guestsOf", desc := "(I)I" } : Jvm.MethodName)) ∈ lw_all := lw_g (lw_at lw_m6 88 rfl) rfl
theorem q1463 : (Jvm.Cond.code ({ cls := "HairProvince", name := "guestsOf", desc := "(I)I" } : Jvm.MethodName) prog_1_method_81_code (5 : Nat) (Option.some Jvm.ClassFile.FieldType.int)) ∈ lw_all := lw_g (lw_at lw_m6 89 rfl) rfl
theorem q1464 : (Jvm.Cond.methodLink "HairProvince" (429 : Nat) ({ cls := "HairProvince", name := "doDine", desc := "(II)Z" } : Jvm.MethodName)) ∈ lw_all := lw_g (lw_at lw_m6 90 rfl) rfl
theorem q1465 : (Jvm.Cond.privateMethod ({ cls := "HairProvince", name := "doDine", desc := "(II)Z" } : Jvm.MethodName)) ∈ lw_tbl := lw_at lw_m6 91 rfl
theorem q1466 : (Jvm.Cond.instanceMethod ({ cls := "HairProvince", name := "doDine", desc := "(II)Z" } : Jvm.MethodName)) ∈ lw_all := lw_g (lw_at lw_m6 92 rfl) rfl
theorem q1467 : (Jvm.Cond.code ({ cls := "HairProvince", name := "doDine", desc := "(II)Z" } : Jvm.MethodName) prog_1_method_80_code (4 : Nat) (Option.some Jvm.ClassFile.FieldType.boolean)) ∈ lw_all := lw_g (lw_at lw_m6 93 rfl) rfl
theorem q1468 : (Jvm.Cond.methodLink "HairProvince" (426 : Nat) ({ cls := "HairProvince$Dinner", name := "areBoth", desc := "(II)Z" } : Jvm.MethodName)) ∈ lw_all := lw_g (lw_at lw_m6 94 rfl) rfl
theorem q1474 : (Jvm.Cond.instanceMethod ({ cls := "HairProvince", name := "rumour", desc := "(II)I" } : Jvm.MethodName)) ∈ lw_all := lw_g (lw_at lw_m6 100 rfl) rfl
theorem q1475 : (Jvm.Cond.selects "HairProvince" ({ cls := "HairProvince", name := "rumour", desc := "(II)I" } : Jvm.MethodName) ({ cls := "HairProvince", name := "rumour", desc := "(II)I" } : Jvm.MethodName)) ∈ lw_all := lw_g (lw_at lw_m6 101 rfl) rfl
theorem q1476 : (Jvm.Cond.code ({ cls := "HairProvince", name := "rumour", desc := "(II)I" } : Jvm.MethodName) prog_1_method_83_code (5 : Nat) (Option.some Jvm.ClassFile.FieldType.int)) ∈ lw_all := lw_g (lw_at lw_m6 102 rfl) rfl
theorem q1478 : (Jvm.Cond.instanceMethod ({ cls := "HairProvince", name := "game", desc := "(III)I" } : Jvm.MethodName)) ∈ lw_all := lw_g (lw_at lw_m6 104 rfl) rfl
theorem q1479 : (Jvm.Cond.selects "HairProvince" ({ cls := "HairProvince", name := "game", desc := "(III)I" } : Jvm.MethodName) ({ cls := "HairProvince", name := "game", desc := "(III)I" } : Jvm.MethodName)) ∈ lw_all := lw_g (lw_at lw_m6 105 rfl) rfl
theorem q1480 : (Jvm.Cond.code ({ cls := "HairProvince", name := "game", desc := "(III)I" } : Jvm.MethodName) prog_1_method_87_code (5 : Nat) (Option.some Jvm.ClassFile.FieldType.int)) ∈ lw_all := lw_g (lw_at lw_m6 106 rfl) rfl
theorem q1481 : (Jvm.Cond.methodLink "HairProvince" (460 : Nat) ({ cls := "HairProvince", name := "wrongGame", desc := "(IIII)I" } : Jvm.MethodName)) ∈ lw_all := lw_g (lw_at lw_m6 107 rfl) rfl
theorem q1482 : (Jvm.Cond.privateMethod ({ cls := "HairProvince", name := "wrongGame", desc := "(IIII)I" } : Jvm.MethodName)) ∈ lw_tbl := lw_at lw_m6 108 rfl
theorem q1483 : (Jvm.Cond.instanceMethod ({ cls := "HairProvince", name := "wrongGame", desc := "(IIII)I" } : Jvm.MethodName)) ∈ lw_all := lw_g (lw_at lw_m6 109 rfl) rfl
theorem q1484 : (Jvm.Cond.code ({ cls := "HairProvince", name := "wrongGame", desc := "(IIII)I" } : Jvm.MethodName) prog_1_method_86_code (5 : Nat) (Option.some Jvm.ClassFile.FieldType.int)) ∈ lw_all := lw_g (lw_at lw_m6 110 rfl) rfl
theorem q1485 : (Jvm.Cond.constantLong "HairProvince" (458 : Nat) (3 : Int64)) ∈ lw_all := lw_g (lw_at lw_m6 111 rfl) rfl
theorem q1486 : (Jvm.Cond.methodLink "HairProvince" (464 : Nat) ({ cls := "HairProvince", name := "playing", desc := "(III)I" } : Jvm.MethodName)) ∈ lw_all := lw_g (lw_at lw_m6 112 rfl) rfl
theorem q1487 : (Jvm.Cond.privateMethod ({ cls := "HairProvince", name := "playing", desc := "(III)I" } : Jvm.MethodName)) ∈ lw_tbl := lw_at lw_m6 113 rfl
theorem q1488 : (Jvm.Cond.instanceMethod ({ cls := "HairProvince", name := "playing", desc := "(III)I" } : Jvm.MethodName)) ∈ lw_all := lw_g (lw_at lw_m6 114 rfl) rfl
theorem q1489 : (Jvm.Cond.code ({ cls := "HairProvince", name := "playing", desc := "(III)I" } : Jvm.MethodName) prog_1_method_85_code (4 : Nat) (Option.some Jvm.ClassFile.FieldType.int)) ∈ lw_all := lw_g (lw_at lw_m6 115 rfl) rfl
theorem q1490 : (Jvm.Cond.methodLink "HairProvince" (438 : Nat) ({ cls := "HairProvince$Person", name := "takes", desc := "(LHairProvince$Person;)LHairProvince$Person;" } : Jvm.MethodName)) ∈ lw_all := lw_g (lw_at lw_m6 116 rfl) rfl
theorem q1491 : (Jvm.Cond.methodLink "HairProvince" (455 : Nat) ({ cls := "HairProvince", name := "plays", desc := "(II)I" } : Jvm.MethodName)) ∈ lw_all := lw_g (lw_at lw_m6 117 rfl) rfl
theorem q1492 : (Jvm.Cond.privateMethod ({ cls := "HairProvince", name := "plays", desc := "(II)I" } : Jvm.MethodName)) ∈ lw_tbl := lw_at lw_m6 118 rfl
theorem q1493 : (Jvm.Cond.instanceMethod ({ cls := "HairProvince", name := "plays", desc := "(II)I" } : Jvm.MethodName)) ∈ lw_all := lw_g (lw_at lw_m6 119 rfl) rfl
theorem q1494 : (Jvm.Cond.code ({ cls := "HairProvince", name := "plays", desc := "(II)I" } : Jvm.MethodName) prog_1_method_84_code (9 : Nat) (Option.some Jvm.ClassFile.FieldType.int)) ∈ lw_all := lw_g (lw_at lw_m6 120 rfl) rfl
theorem q1495 : (Jvm.Cond.methodLink "HairProvince" (442 : Nat) ({ cls := "HairProvince$Saying", name := "can", desc := "(LHairProvince$Person;ILHairProvince$Person;)Z" } : Jvm.MethodName)) ∈ lw_all := lw_g (lw_at lw_m6 121 rfl) rfl
theorem q1496 : (Jvm.Cond.methodLink "HairProvince" (448 : Nat) ({ cls := "HairProvince$Saying", name := "does", desc := "(LHairProvince$Person;ILHairProvince$Person;)V" } : Jvm.MethodName)) ∈ lw_all := lw_g (lw_at lw_m6 122 rfl) rfl
theorem q1497 : (Jvm.Cond.methodLink "HairProvince" (452 : Nat) ({ cls := "HairProvince$Person", name := "grows", desc := "([LHairProvince$Word;)V" } : Jvm.MethodName)) ∈ lw_all := lw_g (lw_at lw_m6 123 rfl) rfl
theorem q1499 : (Jvm.Cond.instanceMethod ({ cls := "HairProvince", name := "moveOf", desc := "(III)I" } : Jvm.MethodName)) ∈ lw_all := lw_g (lw_at lw_m6 125 rfl) rfl
theorem q1500 : (Jvm.Cond.selects "HairProvince" ({ cls := "HairProvince", name := "moveOf", desc := "(III)I" } : Jvm.MethodName) ({ cls := "HairProvince", name := "moveOf", desc := "(III)I" } : Jvm.MethodName)) ∈ lw_all := lw_g (lw_at lw_m6 126 rfl) rfl
theorem q1501 : (Jvm.Cond.code ({ cls := "HairProvince", name := "moveOf", desc := "(III)I" } : Jvm.MethodName) prog_1_method_88_code (5 : Nat) (Option.some Jvm.ClassFile.FieldType.int)) ∈ lw_all := lw_g (lw_at lw_m6 127 rfl) rfl
theorem q1503 : (Jvm.Cond.instanceMethod ({ cls := "HairProvince", name := "safe", desc := "(II)Z" } : Jvm.MethodName)) ∈ lw_all := lw_g (lw_at lw_m6 129 rfl) rfl
theorem q1504 : (Jvm.Cond.selects "HairProvince" ({ cls := "HairProvince", name := "safe", desc := "(II)Z" } : Jvm.MethodName) ({ cls := "HairProvince", name := "safe", desc := "(II)Z" } : Jvm.MethodName)) ∈ lw_all := lw_g (lw_at lw_m6 130 rfl) rfl
theorem q1505 : (Jvm.Cond.code ({ cls := "HairProvince", name := "safe", desc := "(II)Z" } : Jvm.MethodName) prog_1_method_90_code (4 : Nat) (Option.some Jvm.ClassFile.FieldType.boolean)) ∈ lw_all := lw_g (lw_at lw_m6 131 rfl) rfl
theorem q1506 : (Jvm.Cond.methodLink "HairProvince" (467 : Nat) ({ cls := "HairProvince", name := "powerOf", desc := "(II)J" } : Jvm.MethodName)) ∈ lw_all := lw_g (lw_at lw_m6 132 rfl) rfl
theorem q1507 : (Jvm.Cond.static ({ cls := "HairProvince", name := "powerOf", desc := "(II)J" } : Jvm.MethodName)) ∈ lw_all := lw_g (lw_at lw_m6 133 rfl) rfl
theorem q1508 : (Jvm.Cond.code ({ cls := "HairProvince", name := "powerOf", desc := "(II)J" } : Jvm.MethodName) prog_1_method_89_code (5 : Nat) (Option.some Jvm.ClassFile.FieldType.long)) ∈ lw_all := lw_g (lw_at lw_m6 134 rfl) rfl
theorem q1509 : (Jvm.Cond.methodLink "HairProvince" (471 : Nat) ({ cls := "HairProvince", name := "tell", desc := "(JJ)Z" } : Jvm.MethodName)) ∈ lw_all := lw_g (lw_at lw_m6 135 rfl) rfl
theorem q1510 : (Jvm.Cond.privateMethod ({ cls := "HairProvince", name := "tell", desc := "(JJ)Z" } : Jvm.MethodName)) ∈ lw_tbl := lw_at lw_m6 136 rfl
theorem q1511 : (Jvm.Cond.instanceMethod ({ cls := "HairProvince", name := "tell", desc := "(JJ)Z" } : Jvm.MethodName)) ∈ lw_all := lw_g (lw_at lw_m6 137 rfl) rfl
theorem q1512 : (Jvm.Cond.code ({ cls := "HairProvince", name := "tell", desc := "(JJ)Z" } : Jvm.MethodName) prog_1_method_11_code (11 : Nat) (Option.some Jvm.ClassFile.FieldType.boolean)) ∈ lw_all := lw_g (lw_at lw_m6 138 rfl) rfl
theorem q1514 : (Jvm.Cond.instanceMethod ({ cls := "HairProvince", name := "riskiest", desc := "()I" } : Jvm.MethodName)) ∈ lw_all := lw_g (lw_at lw_m6 140 rfl) rfl
theorem q1515 : (Jvm.Cond.selects "HairProvince" ({ cls := "HairProvince", name := "riskiest", desc := "()I" } : Jvm.MethodName) ({ cls := "HairProvince", name := "riskiest", desc := "()I" } : Jvm.MethodName)) ∈ lw_all := lw_g (lw_at lw_m6 141 rfl) rfl
theorem q1516 : (Jvm.Cond.code ({ cls := "HairProvince", name := "riskiest", desc := "()I" } : Jvm.MethodName) prog_1_method_91_code (8 : Nat) (Option.some Jvm.ClassFile.FieldType.int)) ∈ lw_all := lw_g (lw_at lw_m6 142 rfl) rfl
theorem q1518 : (Jvm.Cond.instanceMethod ({ cls := "HairProvince", name := "live", desc := "(I)I" } : Jvm.MethodName)) ∈ lw_all := lw_g (lw_at lw_m6 144 rfl) rfl
theorem q1519 : (Jvm.Cond.selects "HairProvince" ({ cls := "HairProvince", name := "live", desc := "(I)I" } : Jvm.MethodName) ({ cls := "HairProvince", name := "live", desc := "(I)I" } : Jvm.MethodName)) ∈ lw_all := lw_g (lw_at lw_m6 145 rfl) rfl
theorem q1520 : (Jvm.Cond.code ({ cls := "HairProvince", name := "live", desc := "(I)I" } : Jvm.MethodName) prog_1_method_101_code (2 : Nat) (Option.some Jvm.ClassFile.FieldType.int)) ∈ lw_all := lw_g (lw_at lw_m6 146 rfl) rfl
theorem q1521 : (Jvm.Cond.methodLink "HairProvince" (531 : Nat) ({ cls := "HairProvince", name := "livesBy", desc := "(I)V" } : Jvm.MethodName)) ∈ lw_all := lw_g (lw_at lw_m6 147 rfl) rfl
theorem q1522 : (Jvm.Cond.privateMethod ({ cls := "HairProvince", name := "livesBy", desc := "(I)V" } : Jvm.MethodName)) ∈ lw_tbl := lw_at lw_m6 148 rfl
theorem q1523 : (Jvm.Cond.instanceMethod ({ cls := "HairProvince", name := "livesBy", desc := "(I)V" } : Jvm.MethodName)) ∈ lw_all := lw_g (lw_at lw_m6 149 rfl) rfl
theorem q1524 : (Jvm.Cond.code ({ cls := "HairProvince", name := "livesBy", desc := "(I)V" } : Jvm.MethodName) prog_1_method_100_code (4 : Nat) (Option.none : Option Jvm.ClassFile.FieldType)) ∈ lw_all := lw_g (lw_at lw_m6 150 rfl) rfl
theorem q1525 : (Jvm.Cond.methodLink "HairProvince" (522 : Nat) ({ cls := "HairProvince", name := "does", desc := "(LHairProvince$Step;)Z" } : Jvm.MethodName)) ∈ lw_all := lw_g (lw_at lw_m6 151 rfl) rfl
theorem q1526 : (Jvm.Cond.privateMethod ({ cls := "HairProvince", name := "does", desc := "(LHairProvince$Step;)Z" } : Jvm.MethodName)) ∈ lw_tbl := lw_at lw_m6 152 rfl
theorem q1527 : (Jvm.Cond.instanceMethod ({ cls := "HairProvince", name := "does", desc := "(LHairProvince$Step;)Z" } : Jvm.MethodName)) ∈ lw_all := lw_g (lw_at lw_m6 153 rfl) rfl
theorem q1528 : (Jvm.Cond.code ({ cls := "HairProvince", name := "does", desc := "(LHairProvince$Step;)Z" } : Jvm.MethodName) prog_1_method_97_code (2 : Nat) (Option.some Jvm.ClassFile.FieldType.boolean)) ∈ lw_all := lw_g (lw_at lw_m6 154 rfl) rfl
theorem q1529 : (Jvm.Cond.methodLink "HairProvince" (491 : Nat) ({ cls := "HairProvince", name := "daysGo", desc := "(I)Z" } : Jvm.MethodName)) ∈ lw_all := lw_g (lw_at lw_m6 155 rfl) rfl
theorem q1530 : (Jvm.Cond.privateMethod ({ cls := "HairProvince", name := "daysGo", desc := "(I)Z" } : Jvm.MethodName)) ∈ lw_tbl := lw_at lw_m6 156 rfl
theorem q1531 : (Jvm.Cond.instanceMethod ({ cls := "HairProvince", name := "daysGo", desc := "(I)Z" } : Jvm.MethodName)) ∈ lw_all := lw_g (lw_at lw_m6 157 rfl) rfl
theorem q1532 : (Jvm.Cond.code ({ cls := "HairProvince", name := "daysGo", desc := "(I)Z" } : Jvm.MethodName) prog_1_method_93_code (2 : Nat) (Option.some Jvm.ClassFile.FieldType.boolean)) ∈ lw_all := lw_g (lw_at lw_m6 158 rfl) rfl
theorem q1533 : (Jvm.Cond.methodLink "HairProvince" (482 : Nat) ({ cls := "HairProvince", name := "saysBy", desc := "(III)Z" } : Jvm.MethodName)) ∈ lw_all := lw_g (lw_at lw_m6 159 rfl) rfl
theorem q1534 : (Jvm.Cond.privateMethod ({ cls := "HairProvince", name := "saysBy", desc := "(III)Z" } : Jvm.MethodName)) ∈ lw_tbl := lw_at lw_m6 160 rfl
theorem q1535 : (Jvm.Cond.instanceMethod ({ cls := "HairProvince", name := "saysBy", desc := "(III)Z" } : Jvm.MethodName)) ∈ lw_all := lw_g (lw_at lw_m6 161 rfl) rfl
theorem q1536 : (Jvm.Cond.code ({ cls := "HairProvince", name := "saysBy", desc := "(III)Z" } : Jvm.MethodName) prog_1_method_94_code (4 : Nat) (Option.some Jvm.ClassFile.FieldType.boolean)) ∈ lw_all := lw_g (lw_at lw_m6 162 rfl) rfl
theorem q1537 : (Jvm.Cond.methodLink "HairProvince" (500 : Nat) ({ cls := "HairProvince", name := "cutsBy", desc := "(II)Z" } : Jvm.MethodName)) ∈ lw_all := lw_g (lw_at lw_m6 163 rfl) rfl
theorem q1538 : (Jvm.Cond.privateMethod ({ cls := "HairProvince", name := "cutsBy", desc := "(II)Z" } : Jvm.MethodName)) ∈ lw_tbl := lw_at lw_m6 164 rfl
theorem q1539 : (Jvm.Cond.instanceMethod ({ cls := "HairProvince", name := "cutsBy", desc := "(II)Z" } : Jvm.MethodName)) ∈ lw_all := lw_g (lw_at lw_m6 165 rfl) rfl
theorem q1540 : (Jvm.Cond.code ({ cls := "HairProvince", name := "cutsBy", desc := "(II)Z" } : Jvm.MethodName) prog_1_method_96_code (3 : Nat) (Option.some Jvm.ClassFile.FieldType.boolean)) ∈ lw_all := lw_g (lw_at lw_m6 166 rfl) rfl
theorem q1541 : (Jvm.Cond.methodLink "HairProvince" (503 : Nat) ({ cls := "HairProvince", name := "saysAny", desc := "()Z" } : Jvm.MethodName)) ∈ lw_all := lw_g (lw_at lw_m6 167 rfl) rfl
theorem q1542 : (Jvm.Cond.privateMethod ({ cls := "HairProvince", name := "saysAny", desc := "()Z" } : Jvm.MethodName)) ∈ lw_tbl := lw_at lw_m6 168 rfl
theorem q1543 : (Jvm.Cond.instanceMethod ({ cls := "HairProvince", name := "saysAny", desc := "()Z" } : Jvm.MethodName)) ∈ lw_all := lw_g (lw_at lw_m6 169 rfl) rfl
theorem q1544 : (Jvm.Cond.code ({ cls := "HairProvince", name := "saysAny", desc := "()Z" } : Jvm.MethodName) prog_1_method_95_code (3 : Nat) (Option.some Jvm.ClassFile.FieldType.boolean)) ∈ lw_all := lw_g (lw_at lw_m6 170 rfl) rfl
theorem q1545 : (Jvm.Cond.methodLink "HairProvince" (479 : Nat) ({ cls := "HairProvince", name := "draw", desc := "(I)I" } : Jvm.MethodName)) ∈ lw_all := lw_g (lw_at lw_m6 171 rfl) rfl
theorem q1546 : (Jvm.Cond.privateMethod ({ cls := "HairProvince", name := "draw", desc := "(I)I" } : Jvm.MethodName)) ∈ lw_tbl := lw_at lw_m6 172 rfl
theorem q1547 : (Jvm.Cond.instanceMethod ({ cls := "HairProvince", name := "draw", desc := "(I)I" } : Jvm.MethodName)) ∈ lw_all := lw_g (lw_at lw_m6 173 rfl) rfl
theorem q1548 : (Jvm.Cond.code ({ cls := "HairProvince", name := "draw", desc := "(I)I" } : Jvm.MethodName) prog_1_method_92_code (2 : Nat) (Option.some Jvm.ClassFile.FieldType.int)) ∈ lw_all := lw_g (lw_at lw_m6 174 rfl) rfl
theorem q1549 : (Jvm.Cond.constant "HairProvince" (478 : Nat) (65536 : Int32)) ∈ lw_all := lw_g (lw_at lw_m6 175 rfl) rfl
theorem q1550 : (Jvm.Cond.methodLink "HairProvince" (525 : Nat) ({ cls := "HairProvince", name := "holds", desc := "(LHairProvince$Step;)Z" } : Jvm.MethodName)) ∈ lw_all := lw_g (lw_at lw_m6 176 rfl) rfl
theorem q1551 : (Jvm.Cond.privateMethod ({ cls := "HairProvince", name := "holds", desc := "(LHairProvince$Step;)Z" } : Jvm.MethodName)) ∈ lw_tbl := lw_at lw_m6 177 rfl
theorem q1552 : (Jvm.Cond.instanceMethod ({ cls := "HairProvince", name := "holds", desc := "(LHairProvince$Step;)Z" } : Jvm.MethodName)) ∈ lw_all := lw_g (lw_at lw_m6 178 rfl) rfl
theorem q1553 : (Jvm.Cond.code ({ cls := "HairProvince", name := "holds", desc := "(LHairProvince$Step;)Z" } : Jvm.MethodName) prog_1_method_98_code (4 : Nat) (Option.some Jvm.ClassFile.FieldType.boolean)) ∈ lw_all := lw_g (lw_at lw_m6 179 rfl) rfl
theorem q1554 : (Jvm.Cond.methodLink "HairProvince" (528 : Nat) ({ cls := "HairProvince", name := "behindEnds", desc := "(I)I" } : Jvm.MethodName)) ∈ lw_all := lw_g (lw_at lw_m6 180 rfl) rfl
theorem q1555 : (Jvm.Cond.privateMethod ({ cls := "HairProvince", name := "behindEnds", desc := "(I)I" } : Jvm.MethodName)) ∈ lw_tbl := lw_at lw_m6 181 rfl
theorem q1556 : (Jvm.Cond.instanceMethod ({ cls := "HairProvince", name := "behindEnds", desc := "(I)I" } : Jvm.MethodName)) ∈ lw_all := lw_g (lw_at lw_m6 182 rfl) rfl
theorem q1557 : (Jvm.Cond.code ({ cls := "HairProvince", name := "behindEnds", desc := "(I)I" } : Jvm.MethodName) prog_1_method_99_code (5 : Nat) (Option.some Jvm.ClassFile.FieldType.int)) ∈ lw_all := lw_g (lw_at lw_m6 183 rfl) rfl
theorem q1559 : (Jvm.Cond.instanceMethod ({ cls := "HairProvince", name := "lived", desc := "(I)I" } : Jvm.MethodName)) ∈ lw_all := lw_g (lw_at lw_m6 185 rfl) rfl
theorem q1560 : (Jvm.Cond.selects "HairProvince" ({ cls := "HairProvince", name := "lived", desc := "(I)I" } : Jvm.MethodName) ({ cls := "HairProvince", name := "lived", desc := "(I)I" } : Jvm.MethodName)) ∈ lw_all := lw_g (lw_at lw_m6 186 rfl) rfl
theorem q1561 : (Jvm.Cond.code ({ cls := "HairProvince", name := "lived", desc := "(I)I" } : Jvm.MethodName) prog_1_method_102_code (2 : Nat) (Option.some Jvm.ClassFile.FieldType.int)) ∈ lw_all := lw_g (lw_at lw_m6 187 rfl) rfl
theorem q1563 : (Jvm.Cond.instanceMethod ({ cls := "HairProvince", name := "mean", desc := "(II)Z" } : Jvm.MethodName)) ∈ lw_all := lw_g (lw_at lw_m6 189 rfl) rfl
theorem q1564 : (Jvm.Cond.selects "HairProvince" ({ cls := "HairProvince", name := "mean", desc := "(II)Z" } : Jvm.MethodName) ({ cls := "HairProvince", name := "mean", desc := "(II)Z" } : Jvm.MethodName)) ∈ lw_all := lw_g (lw_at lw_m6 190 rfl) rfl
theorem q1565 : (Jvm.Cond.code ({ cls := "HairProvince", name := "mean", desc := "(II)Z" } : Jvm.MethodName) prog_1_method_103_code (7 : Nat) (Option.some Jvm.ClassFile.FieldType.boolean)) ∈ lw_all := lw_g (lw_at lw_m6 191 rfl) rfl
theorem q1566 : (Jvm.Cond.methodLink "HairProvince" (537 : Nat) ({ cls := "HairProvince$Province", name := "takes", desc := "(LHairProvince$Province;)LHairProvince$Province;" } : Jvm.MethodName)) ∈ lw_all := lw_g (lw_at lw_m6 192 rfl) rfl
theorem q1568 : (Jvm.Cond.instanceMethod ({ cls := "HairProvince", name := "mark", desc := "()I" } : Jvm.MethodName)) ∈ lw_all := lw_g (lw_at lw_m6 194 rfl) rfl
theorem q1569 : (Jvm.Cond.selects "HairProvince" ({ cls := "HairProvince", name := "mark", desc := "()I" } : Jvm.MethodName) ({ cls := "HairProvince", name := "mark", desc := "()I" } : Jvm.MethodName)) ∈ lw_all := lw_g (lw_at lw_m6 195 rfl) rfl
theorem q1570 : (Jvm.Cond.code ({ cls := "HairProvince", name := "mark", desc := "()I" } : Jvm.MethodName) prog_1_method_104_code (1 : Nat) (Option.some Jvm.ClassFile.FieldType.int)) ∈ lw_all := lw_g (lw_at lw_m6 196 rfl) rfl
theorem q1572 : (Jvm.Cond.methodLink "HairProvince" (543 : Nat) ({ cls := "HairProvince$Kept", name := "<init>", desc := "(LHairProvince$Province;[LHairProvince$Step;I)V" } : Jvm.MethodName)) ∈ lw_all := lw_g (lw_at lw_m6 198 rfl) rfl
theorem q1577 : (Jvm.Cond.fieldLink "HairProvince" (546 : Nat) "HairProvince$Kept" "province" "LHairProvince$Province;") ∈ lw_all := lw_g (lw_at lw_m6 203 rfl) rfl
theorem q1579 : (Jvm.Cond.fieldLink "HairProvince" (547 : Nat) "HairProvince$Kept" "steps" "[LHairProvince$Step;") ∈ lw_all := lw_g (lw_at lw_m6 205 rfl) rfl
theorem q1581 : (Jvm.Cond.fieldLink "HairProvince" (548 : Nat) "HairProvince$Kept" "stepMany" "I") ∈ lw_all := lw_g (lw_at lw_m6 207 rfl) rfl
theorem q1590 : (Jvm.Cond.instanceMethod ({ cls := "HairProvince", name := "back", desc := "()I" } : Jvm.MethodName)) ∈ lw_all := lw_g (lw_at lw_m6 216 rfl) rfl
theorem q1591 : (Jvm.Cond.selects "HairProvince" ({ cls := "HairProvince", name := "back", desc := "()I" } : Jvm.MethodName) ({ cls := "HairProvince", name := "back", desc := "()I" } : Jvm.MethodName)) ∈ lw_all := lw_g (lw_at lw_m6 217 rfl) rfl
theorem q1592 : (Jvm.Cond.code ({ cls := "HairProvince", name := "back", desc := "()I" } : Jvm.MethodName) prog_1_method_105_code (2 : Nat) (Option.some Jvm.ClassFile.FieldType.int)) ∈ lw_all := lw_g (lw_at lw_m6 218 rfl) rfl
theorem in_X0 : ∀ w ∈ wsX00, w ∈ lw_all := lw_in wsX00 [555, 557, 559, 561, 563, 565, 567, 569, 571, 573, 575, 577, 579, 581, 583, 585, 587, 589, 591, 593, 595, 597, 599, 601, 603] (by decide +kernel) (by decide +kernel)
