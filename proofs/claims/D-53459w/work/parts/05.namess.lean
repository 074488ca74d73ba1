/-! BlanketKeys$State -/
set_option maxRecDepth 100000
def RX1 : String := "BlanketKeys$State"
def TX1 : u_T := fun k => match k with
  | 0 => ("BlanketKeys$State", "keys", "Ljava/util/List;", true)
  | 1 => ("BlanketKeys$State", "disputes", "Ljava/util/List;", true)
  | 2 => ("BlanketKeys$State", "strokes", "LBlanketKeys$Latest;", true)
  | 3 => ("BlanketKeys$State", "typed", "Ljava/util/List;", true)
  | 4 => ("BlanketKeys$State", "signs", "[I", true)
  | 5 => ("BlanketKeys$State", "credited", "[I", true)
  | 6 => ("BlanketKeys$State", "rightly", "[I", true)
  | 7 => ("BlanketKeys$State", "borrows", "[Z", true)
  | 8 => ("BlanketKeys$State", "styles", "[LBlanketKeys$Style;", true)
  | 9 => ("BlanketKeys$State", "settings", "[F", false)
  | 10 => ("BlanketKeys$State", "rows", "I", false)
  | 11 => ("BlanketKeys$State", "columns", "I", false)
  | 12 => ("BlanketKeys$State", "tick", "I", false)
  | 13 => ("BlanketKeys$State", "ended", "I", false)
  | 14 => ("BlanketKeys$State", "ghosts", "I", false)
  | _ => ("BlanketKeys$State", "trueGhosts", "I", false)
def tyX1 : Nat → FieldType := fun k => match k with
  | 0 => .object "java/util/List"
  | 1 => .object "java/util/List"
  | 2 => .object "BlanketKeys$Latest"
  | 3 => .object "java/util/List"
  | 4 => .array .int
  | 5 => .array .int
  | 6 => .array .int
  | 7 => .array .boolean
  | 8 => .array (.object "BlanketKeys$Style")
  | 9 => .array .float
  | 10 => .int
  | 11 => .int
  | 12 => .int
  | 13 => .int
  | 14 => .int
  | _ => .int
abbrev wsX10 : List Cond := u_ws RX1 TX1 16
set_option maxRecDepth 100000 in
theorem nmX1 : ∀ a, a < 16 → ∀ b, b < 16 → a ≠ b → (TX1 a).2.1 ≠ (TX1 b).2.1 := by decide +kernel
set_option maxRecDepth 100000 in
theorem tyX1_ok : ∀ k, k < 16 → parseFieldDescriptor (TX1 k).2.2.1 = some (tyX1 k) := by decide +kernel
abbrev cX1_init : ByteArray := prog_6_method_1_code
def yX1_init : MethodName := ⟨RX1, "<init>", "()V"⟩
def dkwX1_init_7 : List UInt8 := [132, 1, 1, 167, 255, 229, 177]
abbrev dktX1_init_7 : List UInt8 := dkwX1_init_7 ++ []
def dkwX1_init_6 : List UInt8 := [162, 0, 28, 42, 180, 0, 30, 187, 0, 21, 89, 16, 24, 183, 0, 23, 185, 0, 67, 2, 0, 87]
abbrev dktX1_init_6 : List UInt8 := dkwX1_init_6 ++ dktX1_init_7
def dkwX1_init_5 : List UInt8 := [188, 6, 89, 3, 18, 60, 81, 89, 4, 18, 61, 81, 89, 5, 18, 62, 81, 181, 0, 63, 3, 60, 27, 5]
abbrev dktX1_init_5 : List UInt8 := dkwX1_init_5 ++ dktX1_init_6
def dkwX1_init_4 : List UInt8 := [183, 0, 51, 83, 89, 4, 187, 0, 47, 89, 18, 54, 18, 55, 183, 0, 51, 83, 181, 0, 56, 42, 6]
abbrev dktX1_init_4 : List UInt8 := dkwX1_init_4 ++ dktX1_init_5
def dkwX1_init_3 : List UInt8 := [42, 5, 188, 4, 181, 0, 43, 42, 5, 189, 0, 47, 89, 3, 187, 0, 47, 89, 18, 49, 18, 50]
abbrev dktX1_init_3 : List UInt8 := dkwX1_init_3 ++ dktX1_init_4
def dkwX1_init_2 : List UInt8 := [181, 0, 30, 42, 5, 188, 10, 181, 0, 33, 42, 5, 188, 10, 181, 0, 37, 42, 5, 188, 10, 181, 0, 40]
abbrev dktX1_init_2 : List UInt8 := dkwX1_init_2 ++ dktX1_init_3
def dkwX1_init_1 : List UInt8 := [181, 0, 18, 42, 187, 0, 21, 89, 16, 16, 183, 0, 23, 181, 0, 26, 42, 187, 0, 9, 89, 183, 0, 11]
abbrev dktX1_init_1 : List UInt8 := dkwX1_init_1 ++ dktX1_init_2
def dkwX1_init_0 : List UInt8 := [42, 183, 0, 3, 42, 187, 0, 9, 89, 183, 0, 11, 181, 0, 12, 42, 187, 0, 9, 89, 183, 0, 11]
abbrev dktX1_init_0 : List UInt8 := dkwX1_init_0 ++ dktX1_init_1
theorem dksX1_init_0 : cX1_init.data.toList.drop 0 = dktX1_init_0 := by decide +kernel
theorem dksX1_init_1 : cX1_init.data.toList.drop 23 = dktX1_init_1 := dk_seg dksX1_init_0 23 rfl rfl
theorem dksX1_init_2 : cX1_init.data.toList.drop 47 = dktX1_init_2 := dk_seg dksX1_init_1 24 rfl rfl
theorem dksX1_init_3 : cX1_init.data.toList.drop 71 = dktX1_init_3 := dk_seg dksX1_init_2 24 rfl rfl
theorem dksX1_init_4 : cX1_init.data.toList.drop 93 = dktX1_init_4 := dk_seg dksX1_init_3 22 rfl rfl
theorem dksX1_init_5 : cX1_init.data.toList.drop 116 = dktX1_init_5 := dk_seg dksX1_init_4 23 rfl rfl
theorem dksX1_init_6 : cX1_init.data.toList.drop 140 = dktX1_init_6 := dk_seg dksX1_init_5 24 rfl rfl
theorem dksX1_init_7 : cX1_init.data.toList.drop 162 = dktX1_init_7 := dk_seg dksX1_init_6 22 rfl rfl
theorem dX1_init_0 : decode cX1_init 0 = .ok (.aload_n 0, 1) := dk_42 (dk_at dksX1_init_0 0 rfl rfl)
theorem dX1_init_1 : decode cX1_init 1 = .ok (.invokespecial 3, 3) := dk_183 0 3 (dk_at dksX1_init_0 1 rfl rfl)
theorem dX1_init_4 : decode cX1_init 4 = .ok (.aload_n 0, 1) := dk_42 (dk_at dksX1_init_0 4 rfl rfl)
theorem dX1_init_5 : decode cX1_init 5 = .ok (.new 9, 3) := dk_187 0 9 (dk_at dksX1_init_0 5 rfl rfl)
theorem dX1_init_8 : decode cX1_init 8 = .ok (.dup, 1) := dk_89 (dk_at dksX1_init_0 8 rfl rfl)
theorem dX1_init_9 : decode cX1_init 9 = .ok (.invokespecial 11, 3) := dk_183 0 11 (dk_at dksX1_init_0 9 rfl rfl)
theorem dX1_init_12 : decode cX1_init 12 = .ok (.putfield 12, 3) := dk_181 0 12 (dk_at dksX1_init_0 12 rfl rfl)
theorem dX1_init_15 : decode cX1_init 15 = .ok (.aload_n 0, 1) := dk_42 (dk_at dksX1_init_0 15 rfl rfl)
theorem dX1_init_16 : decode cX1_init 16 = .ok (.new 9, 3) := dk_187 0 9 (dk_at dksX1_init_0 16 rfl rfl)
theorem dX1_init_19 : decode cX1_init 19 = .ok (.dup, 1) := dk_89 (dk_at dksX1_init_0 19 rfl rfl)
theorem dX1_init_20 : decode cX1_init 20 = .ok (.invokespecial 11, 3) := dk_183 0 11 (dk_at dksX1_init_0 20 rfl rfl)
theorem dX1_init_23 : decode cX1_init 23 = .ok (.putfield 18, 3) := dk_181 0 18 (dk_at dksX1_init_1 0 rfl rfl)
theorem dX1_init_26 : decode cX1_init 26 = .ok (.aload_n 0, 1) := dk_42 (dk_at dksX1_init_1 3 rfl rfl)
theorem dX1_init_27 : decode cX1_init 27 = .ok (.new 21, 3) := dk_187 0 21 (dk_at dksX1_init_1 4 rfl rfl)
theorem dX1_init_30 : decode cX1_init 30 = .ok (.dup, 1) := dk_89 (dk_at dksX1_init_1 7 rfl rfl)
theorem dX1_init_31 : decode cX1_init 31 = .ok (.bipush 16, 2) := dk_16 16 (dk_at dksX1_init_1 8 rfl rfl)
theorem dX1_init_33 : decode cX1_init 33 = .ok (.invokespecial 23, 3) := dk_183 0 23 (dk_at dksX1_init_1 10 rfl rfl)
theorem dX1_init_36 : decode cX1_init 36 = .ok (.putfield 26, 3) := dk_181 0 26 (dk_at dksX1_init_1 13 rfl rfl)
theorem dX1_init_39 : decode cX1_init 39 = .ok (.aload_n 0, 1) := dk_42 (dk_at dksX1_init_1 16 rfl rfl)
theorem dX1_init_40 : decode cX1_init 40 = .ok (.new 9, 3) := dk_187 0 9 (dk_at dksX1_init_1 17 rfl rfl)
theorem dX1_init_43 : decode cX1_init 43 = .ok (.dup, 1) := dk_89 (dk_at dksX1_init_1 20 rfl rfl)
theorem dX1_init_44 : decode cX1_init 44 = .ok (.invokespecial 11, 3) := dk_183 0 11 (dk_at dksX1_init_1 21 rfl rfl)
theorem dX1_init_47 : decode cX1_init 47 = .ok (.putfield 30, 3) := dk_181 0 30 (dk_at dksX1_init_2 0 rfl rfl)
theorem dX1_init_50 : decode cX1_init 50 = .ok (.aload_n 0, 1) := dk_42 (dk_at dksX1_init_2 3 rfl rfl)
theorem dX1_init_51 : decode cX1_init 51 = .ok (.iconst 2, 1) := dk_5 (dk_at dksX1_init_2 4 rfl rfl)
theorem dX1_init_52 : decode cX1_init 52 = .ok (.newarray .int, 2) := dk_188_10 (dk_at dksX1_init_2 5 rfl rfl)
theorem dX1_init_54 : decode cX1_init 54 = .ok (.putfield 33, 3) := dk_181 0 33 (dk_at dksX1_init_2 7 rfl rfl)
theorem dX1_init_57 : decode cX1_init 57 = .ok (.aload_n 0, 1) := dk_42 (dk_at dksX1_init_2 10 rfl rfl)
theorem dX1_init_58 : decode cX1_init 58 = .ok (.iconst 2, 1) := dk_5 (dk_at dksX1_init_2 11 rfl rfl)
theorem dX1_init_59 : decode cX1_init 59 = .ok (.newarray .int, 2) := dk_188_10 (dk_at dksX1_init_2 12 rfl rfl)
theorem dX1_init_61 : decode cX1_init 61 = .ok (.putfield 37, 3) := dk_181 0 37 (dk_at dksX1_init_2 14 rfl rfl)
theorem dX1_init_64 : decode cX1_init 64 = .ok (.aload_n 0, 1) := dk_42 (dk_at dksX1_init_2 17 rfl rfl)
theorem dX1_init_65 : decode cX1_init 65 = .ok (.iconst 2, 1) := dk_5 (dk_at dksX1_init_2 18 rfl rfl)
theorem dX1_init_66 : decode cX1_init 66 = .ok (.newarray .int, 2) := dk_188_10 (dk_at dksX1_init_2 19 rfl rfl)
theorem dX1_init_68 : decode cX1_init 68 = .ok (.putfield 40, 3) := dk_181 0 40 (dk_at dksX1_init_2 21 rfl rfl)
theorem dX1_init_71 : decode cX1_init 71 = .ok (.aload_n 0, 1) := dk_42 (dk_at dksX1_init_3 0 rfl rfl)
theorem dX1_init_72 : decode cX1_init 72 = .ok (.iconst 2, 1) := dk_5 (dk_at dksX1_init_3 1 rfl rfl)
theorem dX1_init_73 : decode cX1_init 73 = .ok (.newarray .boolean, 2) := dk_188_4 (dk_at dksX1_init_3 2 rfl rfl)
theorem dX1_init_75 : decode cX1_init 75 = .ok (.putfield 43, 3) := dk_181 0 43 (dk_at dksX1_init_3 4 rfl rfl)
theorem dX1_init_78 : decode cX1_init 78 = .ok (.aload_n 0, 1) := dk_42 (dk_at dksX1_init_3 7 rfl rfl)
theorem dX1_init_79 : decode cX1_init 79 = .ok (.iconst 2, 1) := dk_5 (dk_at dksX1_init_3 8 rfl rfl)
theorem dX1_init_80 : decode cX1_init 80 = .ok (.anewarray 47, 3) := dk_189 0 47 (dk_at dksX1_init_3 9 rfl rfl)
theorem dX1_init_83 : decode cX1_init 83 = .ok (.dup, 1) := dk_89 (dk_at dksX1_init_3 12 rfl rfl)
theorem dX1_init_84 : decode cX1_init 84 = .ok (.iconst 0, 1) := dk_3 (dk_at dksX1_init_3 13 rfl rfl)
theorem dX1_init_85 : decode cX1_init 85 = .ok (.new 47, 3) := dk_187 0 47 (dk_at dksX1_init_3 14 rfl rfl)
theorem dX1_init_88 : decode cX1_init 88 = .ok (.dup, 1) := dk_89 (dk_at dksX1_init_3 17 rfl rfl)
theorem dX1_init_89 : decode cX1_init 89 = .ok (.ldc 49, 2) := dk_18 49 (dk_at dksX1_init_3 18 rfl rfl)
theorem dX1_init_91 : decode cX1_init 91 = .ok (.ldc 50, 2) := dk_18 50 (dk_at dksX1_init_3 20 rfl rfl)
theorem dX1_init_93 : decode cX1_init 93 = .ok (.invokespecial 51, 3) := dk_183 0 51 (dk_at dksX1_init_4 0 rfl rfl)
theorem dX1_init_96 : decode cX1_init 96 = .ok (.aastore, 1) := dk_83 (dk_at dksX1_init_4 3 rfl rfl)
theorem dX1_init_97 : decode cX1_init 97 = .ok (.dup, 1) := dk_89 (dk_at dksX1_init_4 4 rfl rfl)
theorem dX1_init_98 : decode cX1_init 98 = .ok (.iconst 1, 1) := dk_4 (dk_at dksX1_init_4 5 rfl rfl)
theorem dX1_init_99 : decode cX1_init 99 = .ok (.new 47, 3) := dk_187 0 47 (dk_at dksX1_init_4 6 rfl rfl)
theorem dX1_init_102 : decode cX1_init 102 = .ok (.dup, 1) := dk_89 (dk_at dksX1_init_4 9 rfl rfl)
theorem dX1_init_103 : decode cX1_init 103 = .ok (.ldc 54, 2) := dk_18 54 (dk_at dksX1_init_4 10 rfl rfl)
theorem dX1_init_105 : decode cX1_init 105 = .ok (.ldc 55, 2) := dk_18 55 (dk_at dksX1_init_4 12 rfl rfl)
theorem dX1_init_107 : decode cX1_init 107 = .ok (.invokespecial 51, 3) := dk_183 0 51 (dk_at dksX1_init_4 14 rfl rfl)
theorem dX1_init_110 : decode cX1_init 110 = .ok (.aastore, 1) := dk_83 (dk_at dksX1_init_4 17 rfl rfl)
theorem dX1_init_111 : decode cX1_init 111 = .ok (.putfield 56, 3) := dk_181 0 56 (dk_at dksX1_init_4 18 rfl rfl)
theorem dX1_init_114 : decode cX1_init 114 = .ok (.aload_n 0, 1) := dk_42 (dk_at dksX1_init_4 21 rfl rfl)
theorem dX1_init_115 : decode cX1_init 115 = .ok (.iconst 3, 1) := dk_6 (dk_at dksX1_init_4 22 rfl rfl)
theorem dX1_init_116 : decode cX1_init 116 = .ok (.newarray .float, 2) := dk_188_6 (dk_at dksX1_init_5 0 rfl rfl)
theorem dX1_init_118 : decode cX1_init 118 = .ok (.dup, 1) := dk_89 (dk_at dksX1_init_5 2 rfl rfl)
theorem dX1_init_119 : decode cX1_init 119 = .ok (.iconst 0, 1) := dk_3 (dk_at dksX1_init_5 3 rfl rfl)
theorem dX1_init_120 : decode cX1_init 120 = .ok (.ldc 60, 2) := dk_18 60 (dk_at dksX1_init_5 4 rfl rfl)
theorem dX1_init_122 : decode cX1_init 122 = .ok (.fastore, 1) := dk_81 (dk_at dksX1_init_5 6 rfl rfl)
theorem dX1_init_123 : decode cX1_init 123 = .ok (.dup, 1) := dk_89 (dk_at dksX1_init_5 7 rfl rfl)
theorem dX1_init_124 : decode cX1_init 124 = .ok (.iconst 1, 1) := dk_4 (dk_at dksX1_init_5 8 rfl rfl)
theorem dX1_init_125 : decode cX1_init 125 = .ok (.ldc 61, 2) := dk_18 61 (dk_at dksX1_init_5 9 rfl rfl)
theorem dX1_init_127 : decode cX1_init 127 = .ok (.fastore, 1) := dk_81 (dk_at dksX1_init_5 11 rfl rfl)
theorem dX1_init_128 : decode cX1_init 128 = .ok (.dup, 1) := dk_89 (dk_at dksX1_init_5 12 rfl rfl)
theorem dX1_init_129 : decode cX1_init 129 = .ok (.iconst 2, 1) := dk_5 (dk_at dksX1_init_5 13 rfl rfl)
theorem dX1_init_130 : decode cX1_init 130 = .ok (.ldc 62, 2) := dk_18 62 (dk_at dksX1_init_5 14 rfl rfl)
theorem dX1_init_132 : decode cX1_init 132 = .ok (.fastore, 1) := dk_81 (dk_at dksX1_init_5 16 rfl rfl)
theorem dX1_init_133 : decode cX1_init 133 = .ok (.putfield 63, 3) := dk_181 0 63 (dk_at dksX1_init_5 17 rfl rfl)
theorem dX1_init_136 : decode cX1_init 136 = .ok (.iconst 0, 1) := dk_3 (dk_at dksX1_init_5 20 rfl rfl)
theorem dX1_init_137 : decode cX1_init 137 = .ok (.istore_n 1, 1) := dk_60 (dk_at dksX1_init_5 21 rfl rfl)
theorem dX1_init_138 : decode cX1_init 138 = .ok (.iload_n 1, 1) := dk_27 (dk_at dksX1_init_5 22 rfl rfl)
theorem dX1_init_139 : decode cX1_init 139 = .ok (.iconst 2, 1) := dk_5 (dk_at dksX1_init_5 23 rfl rfl)
theorem dX1_init_140 : decode cX1_init 140 = .ok (.if_icmp .ge 28, 3) := dk_162 0 28 (dk_at dksX1_init_6 0 rfl rfl)
theorem dX1_init_143 : decode cX1_init 143 = .ok (.aload_n 0, 1) := dk_42 (dk_at dksX1_init_6 3 rfl rfl)
theorem dX1_init_144 : decode cX1_init 144 = .ok (.getfield 30, 3) := dk_180 0 30 (dk_at dksX1_init_6 4 rfl rfl)
theorem dX1_init_147 : decode cX1_init 147 = .ok (.new 21, 3) := dk_187 0 21 (dk_at dksX1_init_6 7 rfl rfl)
theorem dX1_init_150 : decode cX1_init 150 = .ok (.dup, 1) := dk_89 (dk_at dksX1_init_6 10 rfl rfl)
theorem dX1_init_151 : decode cX1_init 151 = .ok (.bipush 24, 2) := dk_16 24 (dk_at dksX1_init_6 11 rfl rfl)
theorem dX1_init_153 : decode cX1_init 153 = .ok (.invokespecial 23, 3) := dk_183 0 23 (dk_at dksX1_init_6 13 rfl rfl)
theorem dX1_init_156 : decode cX1_init 156 = .ok (.invokeinterface 67 2, 5) := by decide +kernel
theorem dX1_init_161 : decode cX1_init 161 = .ok (.pop, 1) := dk_87 (dk_at dksX1_init_6 21 rfl rfl)
theorem dX1_init_162 : decode cX1_init 162 = .ok (.iinc 1 1, 3) := dk_132 1 1 (dk_at dksX1_init_7 0 rfl rfl)
theorem dX1_init_165 : decode cX1_init 165 = .ok (.goto (-27), 3) := dk_167 255 229 (dk_at dksX1_init_7 3 rfl rfl)
theorem dX1_init_168 : decode cX1_init 168 = .ok (.return_, 1) := dk_177 (dk_at dksX1_init_7 6 rfl rfl)
abbrev cX1_lay : ByteArray := prog_6_method_3_code
def yX1_lay : MethodName := ⟨RX1, "lay", "(II)V"⟩
def dkwX1_lay_2 : List UInt8 := [185, 0, 67, 2, 0, 87, 132, 3, 1, 167, 255, 223, 177]
abbrev dktX1_lay_2 : List UInt8 := dkwX1_lay_2 ++ []
def dkwX1_lay_1 : List UInt8 := [180, 0, 102, 42, 180, 0, 106, 104, 162, 0, 26, 42, 180, 0, 12, 187, 0, 82, 89, 183, 0, 124]
abbrev dktX1_lay_1 : List UInt8 := dkwX1_lay_1 ++ dktX1_lay_2
def dkwX1_lay_0 : List UInt8 := [42, 27, 181, 0, 102, 42, 28, 181, 0, 106, 42, 180, 0, 12, 185, 0, 121, 1, 0, 3, 62, 29, 42]
abbrev dktX1_lay_0 : List UInt8 := dkwX1_lay_0 ++ dktX1_lay_1
theorem dksX1_lay_0 : cX1_lay.data.toList.drop 0 = dktX1_lay_0 := by decide +kernel
theorem dksX1_lay_1 : cX1_lay.data.toList.drop 23 = dktX1_lay_1 := dk_seg dksX1_lay_0 23 rfl rfl
theorem dksX1_lay_2 : cX1_lay.data.toList.drop 45 = dktX1_lay_2 := dk_seg dksX1_lay_1 22 rfl rfl
theorem dX1_lay_0 : decode cX1_lay 0 = .ok (.aload_n 0, 1) := dk_42 (dk_at dksX1_lay_0 0 rfl rfl)
theorem dX1_lay_1 : decode cX1_lay 1 = .ok (.iload_n 1, 1) := dk_27 (dk_at dksX1_lay_0 1 rfl rfl)
theorem dX1_lay_2 : decode cX1_lay 2 = .ok (.putfield 102, 3) := dk_181 0 102 (dk_at dksX1_lay_0 2 rfl rfl)
theorem dX1_lay_5 : decode cX1_lay 5 = .ok (.aload_n 0, 1) := dk_42 (dk_at dksX1_lay_0 5 rfl rfl)
theorem dX1_lay_6 : decode cX1_lay 6 = .ok (.iload_n 2, 1) := dk_28 (dk_at dksX1_lay_0 6 rfl rfl)
theorem dX1_lay_7 : decode cX1_lay 7 = .ok (.putfield 106, 3) := dk_181 0 106 (dk_at dksX1_lay_0 7 rfl rfl)
theorem dX1_lay_10 : decode cX1_lay 10 = .ok (.aload_n 0, 1) := dk_42 (dk_at dksX1_lay_0 10 rfl rfl)
theorem dX1_lay_11 : decode cX1_lay 11 = .ok (.getfield 12, 3) := dk_180 0 12 (dk_at dksX1_lay_0 11 rfl rfl)
theorem dX1_lay_14 : decode cX1_lay 14 = .ok (.invokeinterface 121 1, 5) := by decide +kernel
theorem dX1_lay_19 : decode cX1_lay 19 = .ok (.iconst 0, 1) := dk_3 (dk_at dksX1_lay_0 19 rfl rfl)
theorem dX1_lay_20 : decode cX1_lay 20 = .ok (.istore_n 3, 1) := dk_62 (dk_at dksX1_lay_0 20 rfl rfl)
theorem dX1_lay_21 : decode cX1_lay 21 = .ok (.iload_n 3, 1) := dk_29 (dk_at dksX1_lay_0 21 rfl rfl)
theorem dX1_lay_22 : decode cX1_lay 22 = .ok (.aload_n 0, 1) := dk_42 (dk_at dksX1_lay_0 22 rfl rfl)
theorem dX1_lay_23 : decode cX1_lay 23 = .ok (.getfield 102, 3) := dk_180 0 102 (dk_at dksX1_lay_1 0 rfl rfl)
theorem dX1_lay_26 : decode cX1_lay 26 = .ok (.aload_n 0, 1) := dk_42 (dk_at dksX1_lay_1 3 rfl rfl)
theorem dX1_lay_27 : decode cX1_lay 27 = .ok (.getfield 106, 3) := dk_180 0 106 (dk_at dksX1_lay_1 4 rfl rfl)
theorem dX1_lay_30 : decode cX1_lay 30 = .ok (.imul, 1) := dk_104 (dk_at dksX1_lay_1 7 rfl rfl)
theorem dX1_lay_31 : decode cX1_lay 31 = .ok (.if_icmp .ge 26, 3) := dk_162 0 26 (dk_at dksX1_lay_1 8 rfl rfl)
theorem dX1_lay_34 : decode cX1_lay 34 = .ok (.aload_n 0, 1) := dk_42 (dk_at dksX1_lay_1 11 rfl rfl)
theorem dX1_lay_35 : decode cX1_lay 35 = .ok (.getfield 12, 3) := dk_180 0 12 (dk_at dksX1_lay_1 12 rfl rfl)
theorem dX1_lay_38 : decode cX1_lay 38 = .ok (.new 82, 3) := dk_187 0 82 (dk_at dksX1_lay_1 15 rfl rfl)
theorem dX1_lay_41 : decode cX1_lay 41 = .ok (.dup, 1) := dk_89 (dk_at dksX1_lay_1 18 rfl rfl)
theorem dX1_lay_42 : decode cX1_lay 42 = .ok (.invokespecial 124, 3) := dk_183 0 124 (dk_at dksX1_lay_1 19 rfl rfl)
theorem dX1_lay_45 : decode cX1_lay 45 = .ok (.invokeinterface 67 2, 5) := by decide +kernel
theorem dX1_lay_50 : decode cX1_lay 50 = .ok (.pop, 1) := dk_87 (dk_at dksX1_lay_2 5 rfl rfl)
theorem dX1_lay_51 : decode cX1_lay 51 = .ok (.iinc 3 1, 3) := dk_132 3 1 (dk_at dksX1_lay_2 6 rfl rfl)
theorem dX1_lay_54 : decode cX1_lay 54 = .ok (.goto (-33), 3) := dk_167 255 223 (dk_at dksX1_lay_2 9 rfl rfl)
theorem dX1_lay_57 : decode cX1_lay 57 = .ok (.return_, 1) := dk_177 (dk_at dksX1_lay_2 12 rfl rfl)
abbrev cX1_copy : ByteArray := prog_6_method_2_code
def yX1_copy : MethodName := ⟨RX1, "copy", "()LBlanketKeys$State;"⟩
def dkwX1_copy_11 : List UInt8 := [181, 0, 112, 43, 42, 180, 0, 115, 181, 0, 115, 43, 42, 180, 0, 118, 181, 0, 118, 43, 176]
abbrev dktX1_copy_11 : List UInt8 := dkwX1_copy_11 ++ []
def dkwX1_copy_10 : List UInt8 := [181, 0, 102, 43, 42, 180, 0, 106, 181, 0, 106, 43, 42, 180, 0, 109, 181, 0, 109, 43, 42, 180, 0, 112]
abbrev dktX1_copy_10 : List UInt8 := dkwX1_copy_10 ++ dktX1_copy_11
def dkwX1_copy_9 : List UInt8 := [167, 255, 156, 43, 42, 180, 0, 63, 182, 0, 97, 192, 0, 98, 181, 0, 63, 43, 42, 180, 0, 102]
abbrev dktX1_copy_9 : List UInt8 := dkwX1_copy_9 ++ dktX1_copy_10
def dkwX1_copy_8 : List UInt8 := [180, 0, 43, 28, 51, 84, 43, 180, 0, 56, 28, 42, 180, 0, 56, 28, 50, 182, 0, 94, 83, 132, 2, 1]
abbrev dktX1_copy_8 : List UInt8 := dkwX1_copy_8 ++ dktX1_copy_9
def dkwX1_copy_7 : List UInt8 := [180, 0, 37, 28, 46, 79, 43, 180, 0, 40, 28, 42, 180, 0, 40, 28, 46, 79, 43, 180, 0, 43, 28, 42]
abbrev dktX1_copy_7 : List UInt8 := dkwX1_copy_7 ++ dktX1_copy_8
def dkwX1_copy_6 : List UInt8 := [192, 0, 21, 182, 0, 90, 43, 180, 0, 33, 28, 42, 180, 0, 33, 28, 46, 79, 43, 180, 0, 37, 28, 42]
abbrev dktX1_copy_6 : List UInt8 := dkwX1_copy_6 ++ dktX1_copy_7
def dkwX1_copy_5 : List UInt8 := [43, 180, 0, 30, 28, 185, 0, 78, 2, 0, 192, 0, 21, 42, 180, 0, 30, 28, 185, 0, 78, 2, 0]
abbrev dktX1_copy_5 : List UInt8 := dkwX1_copy_5 ++ dktX1_copy_6
def dkwX1_copy_4 : List UInt8 := [132, 2, 1, 167, 255, 217, 43, 180, 0, 26, 42, 180, 0, 26, 182, 0, 90, 3, 61, 28, 5, 162, 0, 101]
abbrev dktX1_copy_4 : List UInt8 := dkwX1_copy_4 ++ dktX1_copy_5
def dkwX1_copy_3 : List UInt8 := [180, 0, 18, 42, 180, 0, 18, 28, 185, 0, 78, 2, 0, 192, 0, 88, 185, 0, 67, 2, 0, 87]
abbrev dktX1_copy_3 : List UInt8 := dkwX1_copy_3 ++ dktX1_copy_4
def dkwX1_copy_2 : List UInt8 := [87, 132, 2, 1, 167, 255, 214, 3, 61, 28, 42, 180, 0, 18, 185, 0, 74, 1, 0, 162, 0, 32, 43]
abbrev dktX1_copy_2 : List UInt8 := dkwX1_copy_2 ++ dktX1_copy_3
def dkwX1_copy_1 : List UInt8 := [180, 0, 12, 42, 180, 0, 12, 28, 185, 0, 78, 2, 0, 192, 0, 82, 182, 0, 84, 185, 0, 67, 2, 0]
abbrev dktX1_copy_1 : List UInt8 := dkwX1_copy_1 ++ dktX1_copy_2
def dkwX1_copy_0 : List UInt8 := [187, 0, 13, 89, 183, 0, 73, 76, 3, 61, 28, 42, 180, 0, 12, 185, 0, 74, 1, 0, 162, 0, 35, 43]
abbrev dktX1_copy_0 : List UInt8 := dkwX1_copy_0 ++ dktX1_copy_1
theorem dksX1_copy_0 : cX1_copy.data.toList.drop 0 = dktX1_copy_0 := by decide +kernel
theorem dksX1_copy_1 : cX1_copy.data.toList.drop 24 = dktX1_copy_1 := dk_seg dksX1_copy_0 24 rfl rfl
theorem dksX1_copy_2 : cX1_copy.data.toList.drop 48 = dktX1_copy_2 := dk_seg dksX1_copy_1 24 rfl rfl
theorem dksX1_copy_3 : cX1_copy.data.toList.drop 71 = dktX1_copy_3 := dk_seg dksX1_copy_2 23 rfl rfl
theorem dksX1_copy_4 : cX1_copy.data.toList.drop 93 = dktX1_copy_4 := dk_seg dksX1_copy_3 22 rfl rfl
theorem dksX1_copy_5 : cX1_copy.data.toList.drop 117 = dktX1_copy_5 := dk_seg dksX1_copy_4 24 rfl rfl
theorem dksX1_copy_6 : cX1_copy.data.toList.drop 140 = dktX1_copy_6 := dk_seg dksX1_copy_5 23 rfl rfl
theorem dksX1_copy_7 : cX1_copy.data.toList.drop 164 = dktX1_copy_7 := dk_seg dksX1_copy_6 24 rfl rfl
theorem dksX1_copy_8 : cX1_copy.data.toList.drop 188 = dktX1_copy_8 := dk_seg dksX1_copy_7 24 rfl rfl
theorem dksX1_copy_9 : cX1_copy.data.toList.drop 212 = dktX1_copy_9 := dk_seg dksX1_copy_8 24 rfl rfl
theorem dksX1_copy_10 : cX1_copy.data.toList.drop 234 = dktX1_copy_10 := dk_seg dksX1_copy_9 22 rfl rfl
theorem dksX1_copy_11 : cX1_copy.data.toList.drop 258 = dktX1_copy_11 := dk_seg dksX1_copy_10 24 rfl rfl
theorem dX1_copy_0 : decode cX1_copy 0 = .ok (.new 13, 3) := dk_187 0 13 (dk_at dksX1_copy_0 0 rfl rfl)
theorem dX1_copy_3 : decode cX1_copy 3 = .ok (.dup, 1) := dk_89 (dk_at dksX1_copy_0 3 rfl rfl)
theorem dX1_copy_4 : decode cX1_copy 4 = .ok (.invokespecial 73, 3) := dk_183 0 73 (dk_at dksX1_copy_0 4 rfl rfl)
theorem dX1_copy_7 : decode cX1_copy 7 = .ok (.astore_n 1, 1) := dk_76 (dk_at dksX1_copy_0 7 rfl rfl)
theorem dX1_copy_8 : decode cX1_copy 8 = .ok (.iconst 0, 1) := dk_3 (dk_at dksX1_copy_0 8 rfl rfl)
theorem dX1_copy_9 : decode cX1_copy 9 = .ok (.istore_n 2, 1) := dk_61 (dk_at dksX1_copy_0 9 rfl rfl)
theorem dX1_copy_10 : decode cX1_copy 10 = .ok (.iload_n 2, 1) := dk_28 (dk_at dksX1_copy_0 10 rfl rfl)
theorem dX1_copy_11 : decode cX1_copy 11 = .ok (.aload_n 0, 1) := dk_42 (dk_at dksX1_copy_0 11 rfl rfl)
theorem dX1_copy_12 : decode cX1_copy 12 = .ok (.getfield 12, 3) := dk_180 0 12 (dk_at dksX1_copy_0 12 rfl rfl)
theorem dX1_copy_15 : decode cX1_copy 15 = .ok (.invokeinterface 74 1, 5) := by decide +kernel
theorem dX1_copy_20 : decode cX1_copy 20 = .ok (.if_icmp .ge 35, 3) := dk_162 0 35 (dk_at dksX1_copy_0 20 rfl rfl)
theorem dX1_copy_23 : decode cX1_copy 23 = .ok (.aload_n 1, 1) := dk_43 (dk_at dksX1_copy_0 23 rfl rfl)
theorem dX1_copy_24 : decode cX1_copy 24 = .ok (.getfield 12, 3) := dk_180 0 12 (dk_at dksX1_copy_1 0 rfl rfl)
theorem dX1_copy_27 : decode cX1_copy 27 = .ok (.aload_n 0, 1) := dk_42 (dk_at dksX1_copy_1 3 rfl rfl)
theorem dX1_copy_28 : decode cX1_copy 28 = .ok (.getfield 12, 3) := dk_180 0 12 (dk_at dksX1_copy_1 4 rfl rfl)
theorem dX1_copy_31 : decode cX1_copy 31 = .ok (.iload_n 2, 1) := dk_28 (dk_at dksX1_copy_1 7 rfl rfl)
theorem dX1_copy_32 : decode cX1_copy 32 = .ok (.invokeinterface 78 2, 5) := by decide +kernel
theorem dX1_copy_37 : decode cX1_copy 37 = .ok (.checkcast 82, 3) := dk_192 0 82 (dk_at dksX1_copy_1 13 rfl rfl)
theorem dX1_copy_40 : decode cX1_copy 40 = .ok (.invokevirtual 84, 3) := dk_182 0 84 (dk_at dksX1_copy_1 16 rfl rfl)
theorem dX1_copy_43 : decode cX1_copy 43 = .ok (.invokeinterface 67 2, 5) := by decide +kernel
theorem dX1_copy_48 : decode cX1_copy 48 = .ok (.pop, 1) := dk_87 (dk_at dksX1_copy_2 0 rfl rfl)
theorem dX1_copy_49 : decode cX1_copy 49 = .ok (.iinc 2 1, 3) := dk_132 2 1 (dk_at dksX1_copy_2 1 rfl rfl)
theorem dX1_copy_52 : decode cX1_copy 52 = .ok (.goto (-42), 3) := dk_167 255 214 (dk_at dksX1_copy_2 4 rfl rfl)
theorem dX1_copy_55 : decode cX1_copy 55 = .ok (.iconst 0, 1) := dk_3 (dk_at dksX1_copy_2 7 rfl rfl)
theorem dX1_copy_56 : decode cX1_copy 56 = .ok (.istore_n 2, 1) := dk_61 (dk_at dksX1_copy_2 8 rfl rfl)
theorem dX1_copy_57 : decode cX1_copy 57 = .ok (.iload_n 2, 1) := dk_28 (dk_at dksX1_copy_2 9 rfl rfl)
theorem dX1_copy_58 : decode cX1_copy 58 = .ok (.aload_n 0, 1) := dk_42 (dk_at dksX1_copy_2 10 rfl rfl)
theorem dX1_copy_59 : decode cX1_copy 59 = .ok (.getfield 18, 3) := dk_180 0 18 (dk_at dksX1_copy_2 11 rfl rfl)
theorem dX1_copy_62 : decode cX1_copy 62 = .ok (.invokeinterface 74 1, 5) := by decide +kernel
theorem dX1_copy_67 : decode cX1_copy 67 = .ok (.if_icmp .ge 32, 3) := dk_162 0 32 (dk_at dksX1_copy_2 19 rfl rfl)
theorem dX1_copy_70 : decode cX1_copy 70 = .ok (.aload_n 1, 1) := dk_43 (dk_at dksX1_copy_2 22 rfl rfl)
theorem dX1_copy_71 : decode cX1_copy 71 = .ok (.getfield 18, 3) := dk_180 0 18 (dk_at dksX1_copy_3 0 rfl rfl)
theorem dX1_copy_74 : decode cX1_copy 74 = .ok (.aload_n 0, 1) := dk_42 (dk_at dksX1_copy_3 3 rfl rfl)
theorem dX1_copy_75 : decode cX1_copy 75 = .ok (.getfield 18, 3) := dk_180 0 18 (dk_at dksX1_copy_3 4 rfl rfl)
theorem dX1_copy_78 : decode cX1_copy 78 = .ok (.iload_n 2, 1) := dk_28 (dk_at dksX1_copy_3 7 rfl rfl)
theorem dX1_copy_79 : decode cX1_copy 79 = .ok (.invokeinterface 78 2, 5) := by decide +kernel
theorem dX1_copy_84 : decode cX1_copy 84 = .ok (.checkcast 88, 3) := dk_192 0 88 (dk_at dksX1_copy_3 13 rfl rfl)
theorem dX1_copy_87 : decode cX1_copy 87 = .ok (.invokeinterface 67 2, 5) := by decide +kernel
theorem dX1_copy_92 : decode cX1_copy 92 = .ok (.pop, 1) := dk_87 (dk_at dksX1_copy_3 21 rfl rfl)
theorem dX1_copy_93 : decode cX1_copy 93 = .ok (.iinc 2 1, 3) := dk_132 2 1 (dk_at dksX1_copy_4 0 rfl rfl)
theorem dX1_copy_96 : decode cX1_copy 96 = .ok (.goto (-39), 3) := dk_167 255 217 (dk_at dksX1_copy_4 3 rfl rfl)
theorem dX1_copy_99 : decode cX1_copy 99 = .ok (.aload_n 1, 1) := dk_43 (dk_at dksX1_copy_4 6 rfl rfl)
theorem dX1_copy_100 : decode cX1_copy 100 = .ok (.getfield 26, 3) := dk_180 0 26 (dk_at dksX1_copy_4 7 rfl rfl)
theorem dX1_copy_103 : decode cX1_copy 103 = .ok (.aload_n 0, 1) := dk_42 (dk_at dksX1_copy_4 10 rfl rfl)
theorem dX1_copy_104 : decode cX1_copy 104 = .ok (.getfield 26, 3) := dk_180 0 26 (dk_at dksX1_copy_4 11 rfl rfl)
theorem dX1_copy_107 : decode cX1_copy 107 = .ok (.invokevirtual 90, 3) := dk_182 0 90 (dk_at dksX1_copy_4 14 rfl rfl)
theorem dX1_copy_110 : decode cX1_copy 110 = .ok (.iconst 0, 1) := dk_3 (dk_at dksX1_copy_4 17 rfl rfl)
theorem dX1_copy_111 : decode cX1_copy 111 = .ok (.istore_n 2, 1) := dk_61 (dk_at dksX1_copy_4 18 rfl rfl)
theorem dX1_copy_112 : decode cX1_copy 112 = .ok (.iload_n 2, 1) := dk_28 (dk_at dksX1_copy_4 19 rfl rfl)
theorem dX1_copy_113 : decode cX1_copy 113 = .ok (.iconst 2, 1) := dk_5 (dk_at dksX1_copy_4 20 rfl rfl)
theorem dX1_copy_114 : decode cX1_copy 114 = .ok (.if_icmp .ge 101, 3) := dk_162 0 101 (dk_at dksX1_copy_4 21 rfl rfl)
theorem dX1_copy_117 : decode cX1_copy 117 = .ok (.aload_n 1, 1) := dk_43 (dk_at dksX1_copy_5 0 rfl rfl)
theorem dX1_copy_118 : decode cX1_copy 118 = .ok (.getfield 30, 3) := dk_180 0 30 (dk_at dksX1_copy_5 1 rfl rfl)
theorem dX1_copy_121 : decode cX1_copy 121 = .ok (.iload_n 2, 1) := dk_28 (dk_at dksX1_copy_5 4 rfl rfl)
theorem dX1_copy_122 : decode cX1_copy 122 = .ok (.invokeinterface 78 2, 5) := by decide +kernel
theorem dX1_copy_127 : decode cX1_copy 127 = .ok (.checkcast 21, 3) := dk_192 0 21 (dk_at dksX1_copy_5 10 rfl rfl)
theorem dX1_copy_130 : decode cX1_copy 130 = .ok (.aload_n 0, 1) := dk_42 (dk_at dksX1_copy_5 13 rfl rfl)
theorem dX1_copy_131 : decode cX1_copy 131 = .ok (.getfield 30, 3) := dk_180 0 30 (dk_at dksX1_copy_5 14 rfl rfl)
theorem dX1_copy_134 : decode cX1_copy 134 = .ok (.iload_n 2, 1) := dk_28 (dk_at dksX1_copy_5 17 rfl rfl)
theorem dX1_copy_135 : decode cX1_copy 135 = .ok (.invokeinterface 78 2, 5) := by decide +kernel
theorem dX1_copy_140 : decode cX1_copy 140 = .ok (.checkcast 21, 3) := dk_192 0 21 (dk_at dksX1_copy_6 0 rfl rfl)
theorem dX1_copy_143 : decode cX1_copy 143 = .ok (.invokevirtual 90, 3) := dk_182 0 90 (dk_at dksX1_copy_6 3 rfl rfl)
theorem dX1_copy_146 : decode cX1_copy 146 = .ok (.aload_n 1, 1) := dk_43 (dk_at dksX1_copy_6 6 rfl rfl)
theorem dX1_copy_147 : decode cX1_copy 147 = .ok (.getfield 33, 3) := dk_180 0 33 (dk_at dksX1_copy_6 7 rfl rfl)
theorem dX1_copy_150 : decode cX1_copy 150 = .ok (.iload_n 2, 1) := dk_28 (dk_at dksX1_copy_6 10 rfl rfl)
theorem dX1_copy_151 : decode cX1_copy 151 = .ok (.aload_n 0, 1) := dk_42 (dk_at dksX1_copy_6 11 rfl rfl)
theorem dX1_copy_152 : decode cX1_copy 152 = .ok (.getfield 33, 3) := dk_180 0 33 (dk_at dksX1_copy_6 12 rfl rfl)
theorem dX1_copy_155 : decode cX1_copy 155 = .ok (.iload_n 2, 1) := dk_28 (dk_at dksX1_copy_6 15 rfl rfl)
theorem dX1_copy_156 : decode cX1_copy 156 = .ok (.iaload, 1) := dk_46 (dk_at dksX1_copy_6 16 rfl rfl)
theorem dX1_copy_157 : decode cX1_copy 157 = .ok (.iastore, 1) := dk_79 (dk_at dksX1_copy_6 17 rfl rfl)
theorem dX1_copy_158 : decode cX1_copy 158 = .ok (.aload_n 1, 1) := dk_43 (dk_at dksX1_copy_6 18 rfl rfl)
theorem dX1_copy_159 : decode cX1_copy 159 = .ok (.getfield 37, 3) := dk_180 0 37 (dk_at dksX1_copy_6 19 rfl rfl)
theorem dX1_copy_162 : decode cX1_copy 162 = .ok (.iload_n 2, 1) := dk_28 (dk_at dksX1_copy_6 22 rfl rfl)
theorem dX1_copy_163 : decode cX1_copy 163 = .ok (.aload_n 0, 1) := dk_42 (dk_at dksX1_copy_6 23 rfl rfl)
theorem dX1_copy_164 : decode cX1_copy 164 = .ok (.getfield 37, 3) := dk_180 0 37 (dk_at dksX1_copy_7 0 rfl rfl)
theorem dX1_copy_167 : decode cX1_copy 167 = .ok (.iload_n 2, 1) := dk_28 (dk_at dksX1_copy_7 3 rfl rfl)
theorem dX1_copy_168 : decode cX1_copy 168 = .ok (.iaload, 1) := dk_46 (dk_at dksX1_copy_7 4 rfl rfl)
theorem dX1_copy_169 : decode cX1_copy 169 = .ok (.iastore, 1) := dk_79 (dk_at dksX1_copy_7 5 rfl rfl)
theorem dX1_copy_170 : decode cX1_copy 170 = .ok (.aload_n 1, 1) := dk_43 (dk_at dksX1_copy_7 6 rfl rfl)
theorem dX1_copy_171 : decode cX1_copy 171 = .ok (.getfield 40, 3) := dk_180 0 40 (dk_at dksX1_copy_7 7 rfl rfl)
theorem dX1_copy_174 : decode cX1_copy 174 = .ok (.iload_n 2, 1) := dk_28 (dk_at dksX1_copy_7 10 rfl rfl)
theorem dX1_copy_175 : decode cX1_copy 175 = .ok (.aload_n 0, 1) := dk_42 (dk_at dksX1_copy_7 11 rfl rfl)
theorem dX1_copy_176 : decode cX1_copy 176 = .ok (.getfield 40, 3) := dk_180 0 40 (dk_at dksX1_copy_7 12 rfl rfl)
theorem dX1_copy_179 : decode cX1_copy 179 = .ok (.iload_n 2, 1) := dk_28 (dk_at dksX1_copy_7 15 rfl rfl)
theorem dX1_copy_180 : decode cX1_copy 180 = .ok (.iaload, 1) := dk_46 (dk_at dksX1_copy_7 16 rfl rfl)
theorem dX1_copy_181 : decode cX1_copy 181 = .ok (.iastore, 1) := dk_79 (dk_at dksX1_copy_7 17 rfl rfl)
theorem dX1_copy_182 : decode cX1_copy 182 = .ok (.aload_n 1, 1) := dk_43 (dk_at dksX1_copy_7 18 rfl rfl)
theorem dX1_copy_183 : decode cX1_copy 183 = .ok (.getfield 43, 3) := dk_180 0 43 (dk_at dksX1_copy_7 19 rfl rfl)
theorem dX1_copy_186 : decode cX1_copy 186 = .ok (.iload_n 2, 1) := dk_28 (dk_at dksX1_copy_7 22 rfl rfl)
theorem dX1_copy_187 : decode cX1_copy 187 = .ok (.aload_n 0, 1) := dk_42 (dk_at dksX1_copy_7 23 rfl rfl)
theorem dX1_copy_188 : decode cX1_copy 188 = .ok (.getfield 43, 3) := dk_180 0 43 (dk_at dksX1_copy_8 0 rfl rfl)
theorem dX1_copy_191 : decode cX1_copy 191 = .ok (.iload_n 2, 1) := dk_28 (dk_at dksX1_copy_8 3 rfl rfl)
theorem dX1_copy_192 : decode cX1_copy 192 = .ok (.baload, 1) := dk_51 (dk_at dksX1_copy_8 4 rfl rfl)
theorem dX1_copy_193 : decode cX1_copy 193 = .ok (.bastore, 1) := dk_84 (dk_at dksX1_copy_8 5 rfl rfl)
theorem dX1_copy_194 : decode cX1_copy 194 = .ok (.aload_n 1, 1) := dk_43 (dk_at dksX1_copy_8 6 rfl rfl)
theorem dX1_copy_195 : decode cX1_copy 195 = .ok (.getfield 56, 3) := dk_180 0 56 (dk_at dksX1_copy_8 7 rfl rfl)
theorem dX1_copy_198 : decode cX1_copy 198 = .ok (.iload_n 2, 1) := dk_28 (dk_at dksX1_copy_8 10 rfl rfl)
theorem dX1_copy_199 : decode cX1_copy 199 = .ok (.aload_n 0, 1) := dk_42 (dk_at dksX1_copy_8 11 rfl rfl)
theorem dX1_copy_200 : decode cX1_copy 200 = .ok (.getfield 56, 3) := dk_180 0 56 (dk_at dksX1_copy_8 12 rfl rfl)
theorem dX1_copy_203 : decode cX1_copy 203 = .ok (.iload_n 2, 1) := dk_28 (dk_at dksX1_copy_8 15 rfl rfl)
theorem dX1_copy_204 : decode cX1_copy 204 = .ok (.aaload, 1) := dk_50 (dk_at dksX1_copy_8 16 rfl rfl)
theorem dX1_copy_205 : decode cX1_copy 205 = .ok (.invokevirtual 94, 3) := dk_182 0 94 (dk_at dksX1_copy_8 17 rfl rfl)
theorem dX1_copy_208 : decode cX1_copy 208 = .ok (.aastore, 1) := dk_83 (dk_at dksX1_copy_8 20 rfl rfl)
theorem dX1_copy_209 : decode cX1_copy 209 = .ok (.iinc 2 1, 3) := dk_132 2 1 (dk_at dksX1_copy_8 21 rfl rfl)
theorem dX1_copy_212 : decode cX1_copy 212 = .ok (.goto (-100), 3) := dk_167 255 156 (dk_at dksX1_copy_9 0 rfl rfl)
theorem dX1_copy_215 : decode cX1_copy 215 = .ok (.aload_n 1, 1) := dk_43 (dk_at dksX1_copy_9 3 rfl rfl)
theorem dX1_copy_216 : decode cX1_copy 216 = .ok (.aload_n 0, 1) := dk_42 (dk_at dksX1_copy_9 4 rfl rfl)
theorem dX1_copy_217 : decode cX1_copy 217 = .ok (.getfield 63, 3) := dk_180 0 63 (dk_at dksX1_copy_9 5 rfl rfl)
theorem dX1_copy_220 : decode cX1_copy 220 = .ok (.invokevirtual 97, 3) := dk_182 0 97 (dk_at dksX1_copy_9 8 rfl rfl)
theorem dX1_copy_223 : decode cX1_copy 223 = .ok (.checkcast 98, 3) := dk_192 0 98 (dk_at dksX1_copy_9 11 rfl rfl)
theorem dX1_copy_226 : decode cX1_copy 226 = .ok (.putfield 63, 3) := dk_181 0 63 (dk_at dksX1_copy_9 14 rfl rfl)
theorem dX1_copy_229 : decode cX1_copy 229 = .ok (.aload_n 1, 1) := dk_43 (dk_at dksX1_copy_9 17 rfl rfl)
theorem dX1_copy_230 : decode cX1_copy 230 = .ok (.aload_n 0, 1) := dk_42 (dk_at dksX1_copy_9 18 rfl rfl)
theorem dX1_copy_231 : decode cX1_copy 231 = .ok (.getfield 102, 3) := dk_180 0 102 (dk_at dksX1_copy_9 19 rfl rfl)
theorem dX1_copy_234 : decode cX1_copy 234 = .ok (.putfield 102, 3) := dk_181 0 102 (dk_at dksX1_copy_10 0 rfl rfl)
theorem dX1_copy_237 : decode cX1_copy 237 = .ok (.aload_n 1, 1) := dk_43 (dk_at dksX1_copy_10 3 rfl rfl)
theorem dX1_copy_238 : decode cX1_copy 238 = .ok (.aload_n 0, 1) := dk_42 (dk_at dksX1_copy_10 4 rfl rfl)
theorem dX1_copy_239 : decode cX1_copy 239 = .ok (.getfield 106, 3) := dk_180 0 106 (dk_at dksX1_copy_10 5 rfl rfl)
theorem dX1_copy_242 : decode cX1_copy 242 = .ok (.putfield 106, 3) := dk_181 0 106 (dk_at dksX1_copy_10 8 rfl rfl)
theorem dX1_copy_245 : decode cX1_copy 245 = .ok (.aload_n 1, 1) := dk_43 (dk_at dksX1_copy_10 11 rfl rfl)
theorem dX1_copy_246 : decode cX1_copy 246 = .ok (.aload_n 0, 1) := dk_42 (dk_at dksX1_copy_10 12 rfl rfl)
theorem dX1_copy_247 : decode cX1_copy 247 = .ok (.getfield 109, 3) := dk_180 0 109 (dk_at dksX1_copy_10 13 rfl rfl)
theorem dX1_copy_250 : decode cX1_copy 250 = .ok (.putfield 109, 3) := dk_181 0 109 (dk_at dksX1_copy_10 16 rfl rfl)
theorem dX1_copy_253 : decode cX1_copy 253 = .ok (.aload_n 1, 1) := dk_43 (dk_at dksX1_copy_10 19 rfl rfl)
theorem dX1_copy_254 : decode cX1_copy 254 = .ok (.aload_n 0, 1) := dk_42 (dk_at dksX1_copy_10 20 rfl rfl)
theorem dX1_copy_255 : decode cX1_copy 255 = .ok (.getfield 112, 3) := dk_180 0 112 (dk_at dksX1_copy_10 21 rfl rfl)
theorem dX1_copy_258 : decode cX1_copy 258 = .ok (.putfield 112, 3) := dk_181 0 112 (dk_at dksX1_copy_11 0 rfl rfl)
theorem dX1_copy_261 : decode cX1_copy 261 = .ok (.aload_n 1, 1) := dk_43 (dk_at dksX1_copy_11 3 rfl rfl)
theorem dX1_copy_262 : decode cX1_copy 262 = .ok (.aload_n 0, 1) := dk_42 (dk_at dksX1_copy_11 4 rfl rfl)
theorem dX1_copy_263 : decode cX1_copy 263 = .ok (.getfield 115, 3) := dk_180 0 115 (dk_at dksX1_copy_11 5 rfl rfl)
theorem dX1_copy_266 : decode cX1_copy 266 = .ok (.putfield 115, 3) := dk_181 0 115 (dk_at dksX1_copy_11 8 rfl rfl)
theorem dX1_copy_269 : decode cX1_copy 269 = .ok (.aload_n 1, 1) := dk_43 (dk_at dksX1_copy_11 11 rfl rfl)
theorem dX1_copy_270 : decode cX1_copy 270 = .ok (.aload_n 0, 1) := dk_42 (dk_at dksX1_copy_11 12 rfl rfl)
theorem dX1_copy_271 : decode cX1_copy 271 = .ok (.getfield 118, 3) := dk_180 0 118 (dk_at dksX1_copy_11 13 rfl rfl)
theorem dX1_copy_274 : decode cX1_copy 274 = .ok (.putfield 118, 3) := dk_181 0 118 (dk_at dksX1_copy_11 16 rfl rfl)
theorem dX1_copy_277 : decode cX1_copy 277 = .ok (.aload_n 1, 1) := dk_43 (dk_at dksX1_copy_11 19 rfl rfl)
theorem dX1_copy_278 : decode cX1_copy 278 = .ok (.areturn, 1) := dk_176 (dk_at dksX1_copy_11 20 rfl rfl)
abbrev cX1_shiftOf : ByteArray := prog_6_method_6_code
def yX1_shiftOf : MethodName := ⟨RX1, "shiftOf", "(I)I"⟩
def dkwX1_shiftOf_2 : List UInt8 := [16, 251, 172]
abbrev dktX1_shiftOf_2 : List UInt8 := dkwX1_shiftOf_2 ++ []
def dkwX1_shiftOf_1 : List UInt8 := [185, 0, 78, 2, 0, 192, 0, 82, 180, 0, 128, 27, 160, 0, 5, 28, 172, 132, 2, 1, 167, 255, 218]
abbrev dktX1_shiftOf_1 : List UInt8 := dkwX1_shiftOf_1 ++ dktX1_shiftOf_2
def dkwX1_shiftOf_0 : List UInt8 := [3, 61, 28, 42, 180, 0, 12, 185, 0, 74, 1, 0, 162, 0, 31, 42, 180, 0, 12, 28]
abbrev dktX1_shiftOf_0 : List UInt8 := dkwX1_shiftOf_0 ++ dktX1_shiftOf_1
theorem dksX1_shiftOf_0 : cX1_shiftOf.data.toList.drop 0 = dktX1_shiftOf_0 := by decide +kernel
theorem dksX1_shiftOf_1 : cX1_shiftOf.data.toList.drop 20 = dktX1_shiftOf_1 := dk_seg dksX1_shiftOf_0 20 rfl rfl
theorem dksX1_shiftOf_2 : cX1_shiftOf.data.toList.drop 43 = dktX1_shiftOf_2 := dk_seg dksX1_shiftOf_1 23 rfl rfl
theorem dX1_shiftOf_0 : decode cX1_shiftOf 0 = .ok (.iconst 0, 1) := dk_3 (dk_at dksX1_shiftOf_0 0 rfl rfl)
theorem dX1_shiftOf_1 : decode cX1_shiftOf 1 = .ok (.istore_n 2, 1) := dk_61 (dk_at dksX1_shiftOf_0 1 rfl rfl)
theorem dX1_shiftOf_2 : decode cX1_shiftOf 2 = .ok (.iload_n 2, 1) := dk_28 (dk_at dksX1_shiftOf_0 2 rfl rfl)
theorem dX1_shiftOf_3 : decode cX1_shiftOf 3 = .ok (.aload_n 0, 1) := dk_42 (dk_at dksX1_shiftOf_0 3 rfl rfl)
theorem dX1_shiftOf_4 : decode cX1_shiftOf 4 = .ok (.getfield 12, 3) := dk_180 0 12 (dk_at dksX1_shiftOf_0 4 rfl rfl)
theorem dX1_shiftOf_7 : decode cX1_shiftOf 7 = .ok (.invokeinterface 74 1, 5) := by decide +kernel
theorem dX1_shiftOf_12 : decode cX1_shiftOf 12 = .ok (.if_icmp .ge 31, 3) := dk_162 0 31 (dk_at dksX1_shiftOf_0 12 rfl rfl)
theorem dX1_shiftOf_15 : decode cX1_shiftOf 15 = .ok (.aload_n 0, 1) := dk_42 (dk_at dksX1_shiftOf_0 15 rfl rfl)
theorem dX1_shiftOf_16 : decode cX1_shiftOf 16 = .ok (.getfield 12, 3) := dk_180 0 12 (dk_at dksX1_shiftOf_0 16 rfl rfl)
theorem dX1_shiftOf_19 : decode cX1_shiftOf 19 = .ok (.iload_n 2, 1) := dk_28 (dk_at dksX1_shiftOf_0 19 rfl rfl)
theorem dX1_shiftOf_20 : decode cX1_shiftOf 20 = .ok (.invokeinterface 78 2, 5) := by decide +kernel
theorem dX1_shiftOf_25 : decode cX1_shiftOf 25 = .ok (.checkcast 82, 3) := dk_192 0 82 (dk_at dksX1_shiftOf_1 5 rfl rfl)
theorem dX1_shiftOf_28 : decode cX1_shiftOf 28 = .ok (.getfield 128, 3) := dk_180 0 128 (dk_at dksX1_shiftOf_1 8 rfl rfl)
theorem dX1_shiftOf_31 : decode cX1_shiftOf 31 = .ok (.iload_n 1, 1) := dk_27 (dk_at dksX1_shiftOf_1 11 rfl rfl)
theorem dX1_shiftOf_32 : decode cX1_shiftOf 32 = .ok (.if_icmp .ne 5, 3) := dk_160 0 5 (dk_at dksX1_shiftOf_1 12 rfl rfl)
theorem dX1_shiftOf_35 : decode cX1_shiftOf 35 = .ok (.iload_n 2, 1) := dk_28 (dk_at dksX1_shiftOf_1 15 rfl rfl)
theorem dX1_shiftOf_36 : decode cX1_shiftOf 36 = .ok (.ireturn, 1) := dk_172 (dk_at dksX1_shiftOf_1 16 rfl rfl)
theorem dX1_shiftOf_37 : decode cX1_shiftOf 37 = .ok (.iinc 2 1, 3) := dk_132 2 1 (dk_at dksX1_shiftOf_1 17 rfl rfl)
theorem dX1_shiftOf_40 : decode cX1_shiftOf 40 = .ok (.goto (-38), 3) := dk_167 255 218 (dk_at dksX1_shiftOf_1 20 rfl rfl)
theorem dX1_shiftOf_43 : decode cX1_shiftOf 43 = .ok (.bipush (-5), 2) := dk_16 251 (dk_at dksX1_shiftOf_2 0 rfl rfl)
theorem dX1_shiftOf_45 : decode cX1_shiftOf 45 = .ok (.ireturn, 1) := dk_172 (dk_at dksX1_shiftOf_2 2 rfl rfl)
abbrev cX1_press : ByteArray := prog_6_method_18_code
def yX1_press : MethodName := ⟨RX1, "press", "(II)I"⟩
def dkwX1_press_3 : List UInt8 := [185, 0, 78, 2, 0, 192, 0, 82, 27, 181, 0, 125, 42, 27, 182, 1, 0, 172]
abbrev dktX1_press_3 : List UInt8 := dkwX1_press_3 ++ []
def dkwX1_press_2 : List UInt8 := [16, 252, 172, 42, 27, 182, 1, 0, 8, 160, 0, 6, 16, 253, 172, 42, 180, 0, 12, 28]
abbrev dktX1_press_2 : List UInt8 := dkwX1_press_2 ++ dktX1_press_3
def dkwX1_press_1 : List UInt8 := [154, 0, 5, 2, 172, 42, 180, 0, 12, 28, 185, 0, 78, 2, 0, 192, 0, 82, 182, 0, 142, 153, 0, 6]
abbrev dktX1_press_1 : List UInt8 := dkwX1_press_1 ++ dktX1_press_2
def dkwX1_press_0 : List UInt8 := [27, 184, 0, 249, 153, 0, 22, 28, 3, 42, 180, 0, 12, 185, 0, 74, 1, 0, 4, 100, 184, 0, 252]
abbrev dktX1_press_0 : List UInt8 := dkwX1_press_0 ++ dktX1_press_1
theorem dksX1_press_0 : cX1_press.data.toList.drop 0 = dktX1_press_0 := by decide +kernel
theorem dksX1_press_1 : cX1_press.data.toList.drop 23 = dktX1_press_1 := dk_seg dksX1_press_0 23 rfl rfl
theorem dksX1_press_2 : cX1_press.data.toList.drop 47 = dktX1_press_2 := dk_seg dksX1_press_1 24 rfl rfl
theorem dksX1_press_3 : cX1_press.data.toList.drop 67 = dktX1_press_3 := dk_seg dksX1_press_2 20 rfl rfl
theorem dX1_press_0 : decode cX1_press 0 = .ok (.iload_n 1, 1) := dk_27 (dk_at dksX1_press_0 0 rfl rfl)
theorem dX1_press_1 : decode cX1_press 1 = .ok (.invokestatic 249, 3) := dk_184 0 249 (dk_at dksX1_press_0 1 rfl rfl)
theorem dX1_press_4 : decode cX1_press 4 = .ok (.ifCond .eq 22, 3) := dk_153 0 22 (dk_at dksX1_press_0 4 rfl rfl)
theorem dX1_press_7 : decode cX1_press 7 = .ok (.iload_n 2, 1) := dk_28 (dk_at dksX1_press_0 7 rfl rfl)
theorem dX1_press_8 : decode cX1_press 8 = .ok (.iconst 0, 1) := dk_3 (dk_at dksX1_press_0 8 rfl rfl)
theorem dX1_press_9 : decode cX1_press 9 = .ok (.aload_n 0, 1) := dk_42 (dk_at dksX1_press_0 9 rfl rfl)
theorem dX1_press_10 : decode cX1_press 10 = .ok (.getfield 12, 3) := dk_180 0 12 (dk_at dksX1_press_0 10 rfl rfl)
theorem dX1_press_13 : decode cX1_press 13 = .ok (.invokeinterface 74 1, 5) := by decide +kernel
theorem dX1_press_18 : decode cX1_press 18 = .ok (.iconst 1, 1) := dk_4 (dk_at dksX1_press_0 18 rfl rfl)
theorem dX1_press_19 : decode cX1_press 19 = .ok (.isub, 1) := dk_100 (dk_at dksX1_press_0 19 rfl rfl)
theorem dX1_press_20 : decode cX1_press 20 = .ok (.invokestatic 252, 3) := dk_184 0 252 (dk_at dksX1_press_0 20 rfl rfl)
theorem dX1_press_23 : decode cX1_press 23 = .ok (.ifCond .ne 5, 3) := dk_154 0 5 (dk_at dksX1_press_1 0 rfl rfl)
theorem dX1_press_26 : decode cX1_press 26 = .ok (.iconst (-1), 1) := dk_2 (dk_at dksX1_press_1 3 rfl rfl)
theorem dX1_press_27 : decode cX1_press 27 = .ok (.ireturn, 1) := dk_172 (dk_at dksX1_press_1 4 rfl rfl)
theorem dX1_press_28 : decode cX1_press 28 = .ok (.aload_n 0, 1) := dk_42 (dk_at dksX1_press_1 5 rfl rfl)
theorem dX1_press_29 : decode cX1_press 29 = .ok (.getfield 12, 3) := dk_180 0 12 (dk_at dksX1_press_1 6 rfl rfl)
theorem dX1_press_32 : decode cX1_press 32 = .ok (.iload_n 2, 1) := dk_28 (dk_at dksX1_press_1 9 rfl rfl)
theorem dX1_press_33 : decode cX1_press 33 = .ok (.invokeinterface 78 2, 5) := by decide +kernel
theorem dX1_press_38 : decode cX1_press 38 = .ok (.checkcast 82, 3) := dk_192 0 82 (dk_at dksX1_press_1 15 rfl rfl)
theorem dX1_press_41 : decode cX1_press 41 = .ok (.invokevirtual 142, 3) := dk_182 0 142 (dk_at dksX1_press_1 18 rfl rfl)
theorem dX1_press_44 : decode cX1_press 44 = .ok (.ifCond .eq 6, 3) := dk_153 0 6 (dk_at dksX1_press_1 21 rfl rfl)
theorem dX1_press_47 : decode cX1_press 47 = .ok (.bipush (-4), 2) := dk_16 252 (dk_at dksX1_press_2 0 rfl rfl)
theorem dX1_press_49 : decode cX1_press 49 = .ok (.ireturn, 1) := dk_172 (dk_at dksX1_press_2 2 rfl rfl)
theorem dX1_press_50 : decode cX1_press 50 = .ok (.aload_n 0, 1) := dk_42 (dk_at dksX1_press_2 3 rfl rfl)
theorem dX1_press_51 : decode cX1_press 51 = .ok (.iload_n 1, 1) := dk_27 (dk_at dksX1_press_2 4 rfl rfl)
theorem dX1_press_52 : decode cX1_press 52 = .ok (.invokevirtual 256, 3) := dk_182 1 0 (dk_at dksX1_press_2 5 rfl rfl)
theorem dX1_press_55 : decode cX1_press 55 = .ok (.iconst 5, 1) := dk_8 (dk_at dksX1_press_2 8 rfl rfl)
theorem dX1_press_56 : decode cX1_press 56 = .ok (.if_icmp .ne 6, 3) := dk_160 0 6 (dk_at dksX1_press_2 9 rfl rfl)
theorem dX1_press_59 : decode cX1_press 59 = .ok (.bipush (-3), 2) := dk_16 253 (dk_at dksX1_press_2 12 rfl rfl)
theorem dX1_press_61 : decode cX1_press 61 = .ok (.ireturn, 1) := dk_172 (dk_at dksX1_press_2 14 rfl rfl)
theorem dX1_press_62 : decode cX1_press 62 = .ok (.aload_n 0, 1) := dk_42 (dk_at dksX1_press_2 15 rfl rfl)
theorem dX1_press_63 : decode cX1_press 63 = .ok (.getfield 12, 3) := dk_180 0 12 (dk_at dksX1_press_2 16 rfl rfl)
theorem dX1_press_66 : decode cX1_press 66 = .ok (.iload_n 2, 1) := dk_28 (dk_at dksX1_press_2 19 rfl rfl)
theorem dX1_press_67 : decode cX1_press 67 = .ok (.invokeinterface 78 2, 5) := by decide +kernel
theorem dX1_press_72 : decode cX1_press 72 = .ok (.checkcast 82, 3) := dk_192 0 82 (dk_at dksX1_press_3 5 rfl rfl)
theorem dX1_press_75 : decode cX1_press 75 = .ok (.iload_n 1, 1) := dk_27 (dk_at dksX1_press_3 8 rfl rfl)
theorem dX1_press_76 : decode cX1_press 76 = .ok (.putfield 125, 3) := dk_181 0 125 (dk_at dksX1_press_3 9 rfl rfl)
theorem dX1_press_79 : decode cX1_press 79 = .ok (.aload_n 0, 1) := dk_42 (dk_at dksX1_press_3 12 rfl rfl)
theorem dX1_press_80 : decode cX1_press 80 = .ok (.iload_n 1, 1) := dk_27 (dk_at dksX1_press_3 13 rfl rfl)
theorem dX1_press_81 : decode cX1_press 81 = .ok (.invokevirtual 256, 3) := dk_182 1 0 (dk_at dksX1_press_3 14 rfl rfl)
theorem dX1_press_84 : decode cX1_press 84 = .ok (.ireturn, 1) := dk_172 (dk_at dksX1_press_3 17 rfl rfl)
abbrev cX1_held : ByteArray := prog_6_method_5_code
def yX1_held : MethodName := ⟨RX1, "held", "(I)I"⟩
def dkwX1_held_2 : List UInt8 := [132, 3, 1, 167, 255, 212, 28, 172]
abbrev dktX1_held_2 : List UInt8 := dkwX1_held_2 ++ []
def dkwX1_held_1 : List UInt8 := [185, 0, 78, 2, 0, 192, 0, 82, 180, 0, 125, 27, 160, 0, 7, 4, 167, 0, 4, 3, 96, 61]
abbrev dktX1_held_1 : List UInt8 := dkwX1_held_1 ++ dktX1_held_2
def dkwX1_held_0 : List UInt8 := [3, 61, 3, 62, 29, 42, 180, 0, 12, 185, 0, 74, 1, 0, 162, 0, 37, 28, 42, 180, 0, 12, 29]
abbrev dktX1_held_0 : List UInt8 := dkwX1_held_0 ++ dktX1_held_1
theorem dksX1_held_0 : cX1_held.data.toList.drop 0 = dktX1_held_0 := by decide +kernel
theorem dksX1_held_1 : cX1_held.data.toList.drop 23 = dktX1_held_1 := dk_seg dksX1_held_0 23 rfl rfl
theorem dksX1_held_2 : cX1_held.data.toList.drop 45 = dktX1_held_2 := dk_seg dksX1_held_1 22 rfl rfl
theorem dX1_held_0 : decode cX1_held 0 = .ok (.iconst 0, 1) := dk_3 (dk_at dksX1_held_0 0 rfl rfl)
theorem dX1_held_1 : decode cX1_held 1 = .ok (.istore_n 2, 1) := dk_61 (dk_at dksX1_held_0 1 rfl rfl)
theorem dX1_held_2 : decode cX1_held 2 = .ok (.iconst 0, 1) := dk_3 (dk_at dksX1_held_0 2 rfl rfl)
theorem dX1_held_3 : decode cX1_held 3 = .ok (.istore_n 3, 1) := dk_62 (dk_at dksX1_held_0 3 rfl rfl)
theorem dX1_held_4 : decode cX1_held 4 = .ok (.iload_n 3, 1) := dk_29 (dk_at dksX1_held_0 4 rfl rfl)
theorem dX1_held_5 : decode cX1_held 5 = .ok (.aload_n 0, 1) := dk_42 (dk_at dksX1_held_0 5 rfl rfl)
theorem dX1_held_6 : decode cX1_held 6 = .ok (.getfield 12, 3) := dk_180 0 12 (dk_at dksX1_held_0 6 rfl rfl)
theorem dX1_held_9 : decode cX1_held 9 = .ok (.invokeinterface 74 1, 5) := by decide +kernel
theorem dX1_held_14 : decode cX1_held 14 = .ok (.if_icmp .ge 37, 3) := dk_162 0 37 (dk_at dksX1_held_0 14 rfl rfl)
theorem dX1_held_17 : decode cX1_held 17 = .ok (.iload_n 2, 1) := dk_28 (dk_at dksX1_held_0 17 rfl rfl)
theorem dX1_held_18 : decode cX1_held 18 = .ok (.aload_n 0, 1) := dk_42 (dk_at dksX1_held_0 18 rfl rfl)
theorem dX1_held_19 : decode cX1_held 19 = .ok (.getfield 12, 3) := dk_180 0 12 (dk_at dksX1_held_0 19 rfl rfl)
theorem dX1_held_22 : decode cX1_held 22 = .ok (.iload_n 3, 1) := dk_29 (dk_at dksX1_held_0 22 rfl rfl)
theorem dX1_held_23 : decode cX1_held 23 = .ok (.invokeinterface 78 2, 5) := by decide +kernel
theorem dX1_held_28 : decode cX1_held 28 = .ok (.checkcast 82, 3) := dk_192 0 82 (dk_at dksX1_held_1 5 rfl rfl)
theorem dX1_held_31 : decode cX1_held 31 = .ok (.getfield 125, 3) := dk_180 0 125 (dk_at dksX1_held_1 8 rfl rfl)
theorem dX1_held_34 : decode cX1_held 34 = .ok (.iload_n 1, 1) := dk_27 (dk_at dksX1_held_1 11 rfl rfl)
theorem dX1_held_35 : decode cX1_held 35 = .ok (.if_icmp .ne 7, 3) := dk_160 0 7 (dk_at dksX1_held_1 12 rfl rfl)
theorem dX1_held_38 : decode cX1_held 38 = .ok (.iconst 1, 1) := dk_4 (dk_at dksX1_held_1 15 rfl rfl)
theorem dX1_held_39 : decode cX1_held 39 = .ok (.goto 4, 3) := dk_167 0 4 (dk_at dksX1_held_1 16 rfl rfl)
theorem dX1_held_42 : decode cX1_held 42 = .ok (.iconst 0, 1) := dk_3 (dk_at dksX1_held_1 19 rfl rfl)
theorem dX1_held_43 : decode cX1_held 43 = .ok (.iadd, 1) := dk_96 (dk_at dksX1_held_1 20 rfl rfl)
theorem dX1_held_44 : decode cX1_held 44 = .ok (.istore_n 2, 1) := dk_61 (dk_at dksX1_held_1 21 rfl rfl)
theorem dX1_held_45 : decode cX1_held 45 = .ok (.iinc 3 1, 3) := dk_132 3 1 (dk_at dksX1_held_2 0 rfl rfl)
theorem dX1_held_48 : decode cX1_held 48 = .ok (.goto (-44), 3) := dk_167 255 212 (dk_at dksX1_held_2 3 rfl rfl)
theorem dX1_held_51 : decode cX1_held 51 = .ok (.iload_n 2, 1) := dk_28 (dk_at dksX1_held_2 6 rfl rfl)
theorem dX1_held_52 : decode cX1_held 52 = .ok (.ireturn, 1) := dk_172 (dk_at dksX1_held_2 7 rfl rfl)
abbrev cX1_release : ByteArray := prog_6_method_19_code
def yX1_release : MethodName := ⟨RX1, "release", "(II)I"⟩
def dkwX1_release_3 : List UInt8 := [42, 27, 182, 1, 0, 172]
abbrev dktX1_release_3 : List UInt8 := dkwX1_release_3 ++ []
def dkwX1_release_2 : List UInt8 := [159, 0, 6, 16, 252, 172, 42, 180, 0, 12, 28, 185, 0, 78, 2, 0, 192, 0, 82, 16, 251, 181, 0, 125]
abbrev dktX1_release_2 : List UInt8 := dkwX1_release_2 ++ dktX1_release_3
def dkwX1_release_1 : List UInt8 := [154, 0, 5, 2, 172, 42, 180, 0, 12, 28, 185, 0, 78, 2, 0, 192, 0, 82, 180, 0, 125, 27]
abbrev dktX1_release_1 : List UInt8 := dkwX1_release_1 ++ dktX1_release_2
def dkwX1_release_0 : List UInt8 := [27, 184, 0, 249, 153, 0, 22, 28, 3, 42, 180, 0, 12, 185, 0, 74, 1, 0, 4, 100, 184, 0, 252]
abbrev dktX1_release_0 : List UInt8 := dkwX1_release_0 ++ dktX1_release_1
theorem dksX1_release_0 : cX1_release.data.toList.drop 0 = dktX1_release_0 := by decide +kernel
theorem dksX1_release_1 : cX1_release.data.toList.drop 23 = dktX1_release_1 := dk_seg dksX1_release_0 23 rfl rfl
theorem dksX1_release_2 : cX1_release.data.toList.drop 45 = dktX1_release_2 := dk_seg dksX1_release_1 22 rfl rfl
theorem dksX1_release_3 : cX1_release.data.toList.drop 69 = dktX1_release_3 := dk_seg dksX1_release_2 24 rfl rfl
theorem dX1_release_0 : decode cX1_release 0 = .ok (.iload_n 1, 1) := dk_27 (dk_at dksX1_release_0 0 rfl rfl)
theorem dX1_release_1 : decode cX1_release 1 = .ok (.invokestatic 249, 3) := dk_184 0 249 (dk_at dksX1_release_0 1 rfl rfl)
theorem dX1_release_4 : decode cX1_release 4 = .ok (.ifCond .eq 22, 3) := dk_153 0 22 (dk_at dksX1_release_0 4 rfl rfl)
theorem dX1_release_7 : decode cX1_release 7 = .ok (.iload_n 2, 1) := dk_28 (dk_at dksX1_release_0 7 rfl rfl)
theorem dX1_release_8 : decode cX1_release 8 = .ok (.iconst 0, 1) := dk_3 (dk_at dksX1_release_0 8 rfl rfl)
theorem dX1_release_9 : decode cX1_release 9 = .ok (.aload_n 0, 1) := dk_42 (dk_at dksX1_release_0 9 rfl rfl)
theorem dX1_release_10 : decode cX1_release 10 = .ok (.getfield 12, 3) := dk_180 0 12 (dk_at dksX1_release_0 10 rfl rfl)
theorem dX1_release_13 : decode cX1_release 13 = .ok (.invokeinterface 74 1, 5) := by decide +kernel
theorem dX1_release_18 : decode cX1_release 18 = .ok (.iconst 1, 1) := dk_4 (dk_at dksX1_release_0 18 rfl rfl)
theorem dX1_release_19 : decode cX1_release 19 = .ok (.isub, 1) := dk_100 (dk_at dksX1_release_0 19 rfl rfl)
theorem dX1_release_20 : decode cX1_release 20 = .ok (.invokestatic 252, 3) := dk_184 0 252 (dk_at dksX1_release_0 20 rfl rfl)
theorem dX1_release_23 : decode cX1_release 23 = .ok (.ifCond .ne 5, 3) := dk_154 0 5 (dk_at dksX1_release_1 0 rfl rfl)
theorem dX1_release_26 : decode cX1_release 26 = .ok (.iconst (-1), 1) := dk_2 (dk_at dksX1_release_1 3 rfl rfl)
theorem dX1_release_27 : decode cX1_release 27 = .ok (.ireturn, 1) := dk_172 (dk_at dksX1_release_1 4 rfl rfl)
theorem dX1_release_28 : decode cX1_release 28 = .ok (.aload_n 0, 1) := dk_42 (dk_at dksX1_release_1 5 rfl rfl)
theorem dX1_release_29 : decode cX1_release 29 = .ok (.getfield 12, 3) := dk_180 0 12 (dk_at dksX1_release_1 6 rfl rfl)
theorem dX1_release_32 : decode cX1_release 32 = .ok (.iload_n 2, 1) := dk_28 (dk_at dksX1_release_1 9 rfl rfl)
theorem dX1_release_33 : decode cX1_release 33 = .ok (.invokeinterface 78 2, 5) := by decide +kernel
theorem dX1_release_38 : decode cX1_release 38 = .ok (.checkcast 82, 3) := dk_192 0 82 (dk_at dksX1_release_1 15 rfl rfl)
theorem dX1_release_41 : decode cX1_release 41 = .ok (.getfield 125, 3) := dk_180 0 125 (dk_at dksX1_release_1 18 rfl rfl)
theorem dX1_release_44 : decode cX1_release 44 = .ok (.iload_n 1, 1) := dk_27 (dk_at dksX1_release_1 21 rfl rfl)
theorem dX1_release_45 : decode cX1_release 45 = .ok (.if_icmp .eq 6, 3) := dk_159 0 6 (dk_at dksX1_release_2 0 rfl rfl)
theorem dX1_release_48 : decode cX1_release 48 = .ok (.bipush (-4), 2) := dk_16 252 (dk_at dksX1_release_2 3 rfl rfl)
theorem dX1_release_50 : decode cX1_release 50 = .ok (.ireturn, 1) := dk_172 (dk_at dksX1_release_2 5 rfl rfl)
theorem dX1_release_51 : decode cX1_release 51 = .ok (.aload_n 0, 1) := dk_42 (dk_at dksX1_release_2 6 rfl rfl)
theorem dX1_release_52 : decode cX1_release 52 = .ok (.getfield 12, 3) := dk_180 0 12 (dk_at dksX1_release_2 7 rfl rfl)
theorem dX1_release_55 : decode cX1_release 55 = .ok (.iload_n 2, 1) := dk_28 (dk_at dksX1_release_2 10 rfl rfl)
theorem dX1_release_56 : decode cX1_release 56 = .ok (.invokeinterface 78 2, 5) := by decide +kernel
theorem dX1_release_61 : decode cX1_release 61 = .ok (.checkcast 82, 3) := dk_192 0 82 (dk_at dksX1_release_2 16 rfl rfl)
theorem dX1_release_64 : decode cX1_release 64 = .ok (.bipush (-5), 2) := dk_16 251 (dk_at dksX1_release_2 19 rfl rfl)
theorem dX1_release_66 : decode cX1_release 66 = .ok (.putfield 125, 3) := dk_181 0 125 (dk_at dksX1_release_2 21 rfl rfl)
theorem dX1_release_69 : decode cX1_release 69 = .ok (.aload_n 0, 1) := dk_42 (dk_at dksX1_release_3 0 rfl rfl)
theorem dX1_release_70 : decode cX1_release 70 = .ok (.iload_n 1, 1) := dk_27 (dk_at dksX1_release_3 1 rfl rfl)
theorem dX1_release_71 : decode cX1_release 71 = .ok (.invokevirtual 256, 3) := dk_182 1 0 (dk_at dksX1_release_3 2 rfl rfl)
theorem dX1_release_74 : decode cX1_release 74 = .ok (.ireturn, 1) := dk_172 (dk_at dksX1_release_3 5 rfl rfl)
abbrev cX1_pass : ByteArray := prog_6_method_11_code
def yX1_pass : MethodName := ⟨RX1, "pass", "()I"⟩
def dkwX1_pass_12 : List UInt8 := [29, 172]
abbrev dktX1_pass_12 : List UInt8 := dkwX1_pass_12 ++ []
def dkwX1_pass_11 : List UInt8 := [25, 6, 180, 0, 125, 181, 0, 169, 132, 5, 1, 167, 255, 203, 42, 89, 180, 0, 109, 4, 96, 181, 0, 109]
abbrev dktX1_pass_11 : List UInt8 := dkwX1_pass_11 ++ dktX1_pass_12
def dkwX1_pass_10 : List UInt8 := [25, 6, 180, 0, 155, 42, 180, 0, 109, 159, 0, 6, 167, 0, 20, 25, 6, 21, 4, 181, 0, 166, 25, 6]
abbrev dktX1_pass_10 : List UInt8 := dkwX1_pass_10 ++ dktX1_pass_11
def dkwX1_pass_9 : List UInt8 := [128, 54, 4, 3, 54, 5, 21, 5, 42, 180, 0, 106, 162, 0, 50, 42, 27, 21, 5, 182, 0, 148, 58, 6]
abbrev dktX1_pass_9 : List UInt8 := dkwX1_pass_9 ++ dktX1_pass_10
def dkwX1_pass_8 : List UInt8 := [182, 0, 162, 153, 0, 7, 4, 167, 0, 4, 3, 42, 4, 182, 0, 162, 153, 0, 7, 5, 167, 0, 4, 3]
abbrev dktX1_pass_8 : List UInt8 := dkwX1_pass_8 ++ dktX1_pass_9
def dkwX1_pass_7 : List UInt8 := [27, 21, 4, 182, 0, 148, 42, 27, 21, 4, 182, 0, 158, 181, 0, 138, 132, 4, 1, 167, 255, 210, 42, 3]
abbrev dktX1_pass_7 : List UInt8 := dkwX1_pass_7 ++ dktX1_pass_8
def dkwX1_pass_6 : List UInt8 := [180, 0, 106, 162, 0, 43, 42, 27, 21, 4, 182, 0, 148, 180, 0, 155, 42, 180, 0, 109, 160, 0, 20, 42]
abbrev dktX1_pass_6 : List UInt8 := dkwX1_pass_6 ++ dktX1_pass_7
def dkwX1_pass_5 : List UInt8 := [182, 0, 148, 42, 180, 0, 109, 181, 0, 155, 132, 4, 1, 167, 255, 207, 3, 54, 4, 21, 4, 42]
abbrev dktX1_pass_5 : List UInt8 := dkwX1_pass_5 ++ dktX1_pass_6
def dkwX1_pass_4 : List UInt8 := [182, 0, 148, 182, 0, 134, 154, 0, 27, 28, 21, 4, 122, 4, 126, 4, 160, 0, 17, 42, 27, 21, 4]
abbrev dktX1_pass_4 : List UInt8 := dkwX1_pass_4 ++ dktX1_pass_5
def dkwX1_pass_3 : List UInt8 := [132, 4, 1, 167, 255, 202, 3, 54, 4, 21, 4, 42, 180, 0, 106, 162, 0, 46, 42, 27, 21, 4]
abbrev dktX1_pass_3 : List UInt8 := dkwX1_pass_3 ++ dktX1_pass_4
def dkwX1_pass_2 : List UInt8 := [126, 4, 160, 0, 6, 167, 0, 19, 42, 27, 42, 180, 0, 106, 104, 21, 4, 96, 182, 0, 152, 132, 3, 1]
abbrev dktX1_pass_2 : List UInt8 := dkwX1_pass_2 ++ dktX1_pass_3
def dkwX1_pass_1 : List UInt8 := [180, 0, 106, 162, 0, 51, 42, 27, 21, 4, 182, 0, 148, 182, 0, 134, 153, 0, 32, 28, 21, 4, 122, 4]
abbrev dktX1_pass_1 : List UInt8 := dkwX1_pass_1 ++ dktX1_pass_2
def dkwX1_pass_0 : List UInt8 := [42, 180, 0, 109, 42, 180, 0, 102, 112, 60, 42, 27, 182, 0, 145, 61, 3, 62, 3, 54, 4, 21, 4, 42]
abbrev dktX1_pass_0 : List UInt8 := dkwX1_pass_0 ++ dktX1_pass_1
theorem dksX1_pass_0 : cX1_pass.data.toList.drop 0 = dktX1_pass_0 := by decide +kernel
theorem dksX1_pass_1 : cX1_pass.data.toList.drop 24 = dktX1_pass_1 := dk_seg dksX1_pass_0 24 rfl rfl
theorem dksX1_pass_2 : cX1_pass.data.toList.drop 48 = dktX1_pass_2 := dk_seg dksX1_pass_1 24 rfl rfl
theorem dksX1_pass_3 : cX1_pass.data.toList.drop 72 = dktX1_pass_3 := dk_seg dksX1_pass_2 24 rfl rfl
theorem dksX1_pass_4 : cX1_pass.data.toList.drop 94 = dktX1_pass_4 := dk_seg dksX1_pass_3 22 rfl rfl
theorem dksX1_pass_5 : cX1_pass.data.toList.drop 117 = dktX1_pass_5 := dk_seg dksX1_pass_4 23 rfl rfl
theorem dksX1_pass_6 : cX1_pass.data.toList.drop 139 = dktX1_pass_6 := dk_seg dksX1_pass_5 22 rfl rfl
theorem dksX1_pass_7 : cX1_pass.data.toList.drop 163 = dktX1_pass_7 := dk_seg dksX1_pass_6 24 rfl rfl
theorem dksX1_pass_8 : cX1_pass.data.toList.drop 187 = dktX1_pass_8 := dk_seg dksX1_pass_7 24 rfl rfl
theorem dksX1_pass_9 : cX1_pass.data.toList.drop 211 = dktX1_pass_9 := dk_seg dksX1_pass_8 24 rfl rfl
theorem dksX1_pass_10 : cX1_pass.data.toList.drop 235 = dktX1_pass_10 := dk_seg dksX1_pass_9 24 rfl rfl
theorem dksX1_pass_11 : cX1_pass.data.toList.drop 259 = dktX1_pass_11 := dk_seg dksX1_pass_10 24 rfl rfl
theorem dksX1_pass_12 : cX1_pass.data.toList.drop 283 = dktX1_pass_12 := dk_seg dksX1_pass_11 24 rfl rfl
theorem dX1_pass_0 : decode cX1_pass 0 = .ok (.aload_n 0, 1) := dk_42 (dk_at dksX1_pass_0 0 rfl rfl)
theorem dX1_pass_1 : decode cX1_pass 1 = .ok (.getfield 109, 3) := dk_180 0 109 (dk_at dksX1_pass_0 1 rfl rfl)
theorem dX1_pass_4 : decode cX1_pass 4 = .ok (.aload_n 0, 1) := dk_42 (dk_at dksX1_pass_0 4 rfl rfl)
theorem dX1_pass_5 : decode cX1_pass 5 = .ok (.getfield 102, 3) := dk_180 0 102 (dk_at dksX1_pass_0 5 rfl rfl)
theorem dX1_pass_8 : decode cX1_pass 8 = .ok (.irem, 1) := dk_112 (dk_at dksX1_pass_0 8 rfl rfl)
theorem dX1_pass_9 : decode cX1_pass 9 = .ok (.istore_n 1, 1) := dk_60 (dk_at dksX1_pass_0 9 rfl rfl)
theorem dX1_pass_10 : decode cX1_pass 10 = .ok (.aload_n 0, 1) := dk_42 (dk_at dksX1_pass_0 10 rfl rfl)
theorem dX1_pass_11 : decode cX1_pass 11 = .ok (.iload_n 1, 1) := dk_27 (dk_at dksX1_pass_0 11 rfl rfl)
theorem dX1_pass_12 : decode cX1_pass 12 = .ok (.invokevirtual 145, 3) := dk_182 0 145 (dk_at dksX1_pass_0 12 rfl rfl)
theorem dX1_pass_15 : decode cX1_pass 15 = .ok (.istore_n 2, 1) := dk_61 (dk_at dksX1_pass_0 15 rfl rfl)
theorem dX1_pass_16 : decode cX1_pass 16 = .ok (.iconst 0, 1) := dk_3 (dk_at dksX1_pass_0 16 rfl rfl)
theorem dX1_pass_17 : decode cX1_pass 17 = .ok (.istore_n 3, 1) := dk_62 (dk_at dksX1_pass_0 17 rfl rfl)
theorem dX1_pass_18 : decode cX1_pass 18 = .ok (.iconst 0, 1) := dk_3 (dk_at dksX1_pass_0 18 rfl rfl)
theorem dX1_pass_19 : decode cX1_pass 19 = .ok (.istore 4, 2) := dk_54 4 (dk_at dksX1_pass_0 19 rfl rfl)
theorem dX1_pass_21 : decode cX1_pass 21 = .ok (.iload 4, 2) := dk_21 4 (dk_at dksX1_pass_0 21 rfl rfl)
theorem dX1_pass_23 : decode cX1_pass 23 = .ok (.aload_n 0, 1) := dk_42 (dk_at dksX1_pass_0 23 rfl rfl)
theorem dX1_pass_24 : decode cX1_pass 24 = .ok (.getfield 106, 3) := dk_180 0 106 (dk_at dksX1_pass_1 0 rfl rfl)
theorem dX1_pass_27 : decode cX1_pass 27 = .ok (.if_icmp .ge 51, 3) := dk_162 0 51 (dk_at dksX1_pass_1 3 rfl rfl)
theorem dX1_pass_30 : decode cX1_pass 30 = .ok (.aload_n 0, 1) := dk_42 (dk_at dksX1_pass_1 6 rfl rfl)
theorem dX1_pass_31 : decode cX1_pass 31 = .ok (.iload_n 1, 1) := dk_27 (dk_at dksX1_pass_1 7 rfl rfl)
theorem dX1_pass_32 : decode cX1_pass 32 = .ok (.iload 4, 2) := dk_21 4 (dk_at dksX1_pass_1 8 rfl rfl)
theorem dX1_pass_34 : decode cX1_pass 34 = .ok (.invokevirtual 148, 3) := dk_182 0 148 (dk_at dksX1_pass_1 10 rfl rfl)
theorem dX1_pass_37 : decode cX1_pass 37 = .ok (.invokevirtual 134, 3) := dk_182 0 134 (dk_at dksX1_pass_1 13 rfl rfl)
theorem dX1_pass_40 : decode cX1_pass 40 = .ok (.ifCond .eq 32, 3) := dk_153 0 32 (dk_at dksX1_pass_1 16 rfl rfl)
theorem dX1_pass_43 : decode cX1_pass 43 = .ok (.iload_n 2, 1) := dk_28 (dk_at dksX1_pass_1 19 rfl rfl)
theorem dX1_pass_44 : decode cX1_pass 44 = .ok (.iload 4, 2) := dk_21 4 (dk_at dksX1_pass_1 20 rfl rfl)
theorem dX1_pass_46 : decode cX1_pass 46 = .ok (.ishr, 1) := dk_122 (dk_at dksX1_pass_1 22 rfl rfl)
theorem dX1_pass_47 : decode cX1_pass 47 = .ok (.iconst 1, 1) := dk_4 (dk_at dksX1_pass_1 23 rfl rfl)
theorem dX1_pass_48 : decode cX1_pass 48 = .ok (.iand, 1) := dk_126 (dk_at dksX1_pass_2 0 rfl rfl)
theorem dX1_pass_49 : decode cX1_pass 49 = .ok (.iconst 1, 1) := dk_4 (dk_at dksX1_pass_2 1 rfl rfl)
theorem dX1_pass_50 : decode cX1_pass 50 = .ok (.if_icmp .ne 6, 3) := dk_160 0 6 (dk_at dksX1_pass_2 2 rfl rfl)
theorem dX1_pass_53 : decode cX1_pass 53 = .ok (.goto 19, 3) := dk_167 0 19 (dk_at dksX1_pass_2 5 rfl rfl)
theorem dX1_pass_56 : decode cX1_pass 56 = .ok (.aload_n 0, 1) := dk_42 (dk_at dksX1_pass_2 8 rfl rfl)
theorem dX1_pass_57 : decode cX1_pass 57 = .ok (.iload_n 1, 1) := dk_27 (dk_at dksX1_pass_2 9 rfl rfl)
theorem dX1_pass_58 : decode cX1_pass 58 = .ok (.aload_n 0, 1) := dk_42 (dk_at dksX1_pass_2 10 rfl rfl)
theorem dX1_pass_59 : decode cX1_pass 59 = .ok (.getfield 106, 3) := dk_180 0 106 (dk_at dksX1_pass_2 11 rfl rfl)
theorem dX1_pass_62 : decode cX1_pass 62 = .ok (.imul, 1) := dk_104 (dk_at dksX1_pass_2 14 rfl rfl)
theorem dX1_pass_63 : decode cX1_pass 63 = .ok (.iload 4, 2) := dk_21 4 (dk_at dksX1_pass_2 15 rfl rfl)
theorem dX1_pass_65 : decode cX1_pass 65 = .ok (.iadd, 1) := dk_96 (dk_at dksX1_pass_2 17 rfl rfl)
theorem dX1_pass_66 : decode cX1_pass 66 = .ok (.invokevirtual 152, 3) := dk_182 0 152 (dk_at dksX1_pass_2 18 rfl rfl)
theorem dX1_pass_69 : decode cX1_pass 69 = .ok (.iinc 3 1, 3) := dk_132 3 1 (dk_at dksX1_pass_2 21 rfl rfl)
theorem dX1_pass_72 : decode cX1_pass 72 = .ok (.iinc 4 1, 3) := dk_132 4 1 (dk_at dksX1_pass_3 0 rfl rfl)
theorem dX1_pass_75 : decode cX1_pass 75 = .ok (.goto (-54), 3) := dk_167 255 202 (dk_at dksX1_pass_3 3 rfl rfl)
theorem dX1_pass_78 : decode cX1_pass 78 = .ok (.iconst 0, 1) := dk_3 (dk_at dksX1_pass_3 6 rfl rfl)
theorem dX1_pass_79 : decode cX1_pass 79 = .ok (.istore 4, 2) := dk_54 4 (dk_at dksX1_pass_3 7 rfl rfl)
theorem dX1_pass_81 : decode cX1_pass 81 = .ok (.iload 4, 2) := dk_21 4 (dk_at dksX1_pass_3 9 rfl rfl)
theorem dX1_pass_83 : decode cX1_pass 83 = .ok (.aload_n 0, 1) := dk_42 (dk_at dksX1_pass_3 11 rfl rfl)
theorem dX1_pass_84 : decode cX1_pass 84 = .ok (.getfield 106, 3) := dk_180 0 106 (dk_at dksX1_pass_3 12 rfl rfl)
theorem dX1_pass_87 : decode cX1_pass 87 = .ok (.if_icmp .ge 46, 3) := dk_162 0 46 (dk_at dksX1_pass_3 15 rfl rfl)
theorem dX1_pass_90 : decode cX1_pass 90 = .ok (.aload_n 0, 1) := dk_42 (dk_at dksX1_pass_3 18 rfl rfl)
theorem dX1_pass_91 : decode cX1_pass 91 = .ok (.iload_n 1, 1) := dk_27 (dk_at dksX1_pass_3 19 rfl rfl)
theorem dX1_pass_92 : decode cX1_pass 92 = .ok (.iload 4, 2) := dk_21 4 (dk_at dksX1_pass_3 20 rfl rfl)
theorem dX1_pass_94 : decode cX1_pass 94 = .ok (.invokevirtual 148, 3) := dk_182 0 148 (dk_at dksX1_pass_4 0 rfl rfl)
theorem dX1_pass_97 : decode cX1_pass 97 = .ok (.invokevirtual 134, 3) := dk_182 0 134 (dk_at dksX1_pass_4 3 rfl rfl)
theorem dX1_pass_100 : decode cX1_pass 100 = .ok (.ifCond .ne 27, 3) := dk_154 0 27 (dk_at dksX1_pass_4 6 rfl rfl)
theorem dX1_pass_103 : decode cX1_pass 103 = .ok (.iload_n 2, 1) := dk_28 (dk_at dksX1_pass_4 9 rfl rfl)
theorem dX1_pass_104 : decode cX1_pass 104 = .ok (.iload 4, 2) := dk_21 4 (dk_at dksX1_pass_4 10 rfl rfl)
theorem dX1_pass_106 : decode cX1_pass 106 = .ok (.ishr, 1) := dk_122 (dk_at dksX1_pass_4 12 rfl rfl)
theorem dX1_pass_107 : decode cX1_pass 107 = .ok (.iconst 1, 1) := dk_4 (dk_at dksX1_pass_4 13 rfl rfl)
theorem dX1_pass_108 : decode cX1_pass 108 = .ok (.iand, 1) := dk_126 (dk_at dksX1_pass_4 14 rfl rfl)
theorem dX1_pass_109 : decode cX1_pass 109 = .ok (.iconst 1, 1) := dk_4 (dk_at dksX1_pass_4 15 rfl rfl)
theorem dX1_pass_110 : decode cX1_pass 110 = .ok (.if_icmp .ne 17, 3) := dk_160 0 17 (dk_at dksX1_pass_4 16 rfl rfl)
theorem dX1_pass_113 : decode cX1_pass 113 = .ok (.aload_n 0, 1) := dk_42 (dk_at dksX1_pass_4 19 rfl rfl)
theorem dX1_pass_114 : decode cX1_pass 114 = .ok (.iload_n 1, 1) := dk_27 (dk_at dksX1_pass_4 20 rfl rfl)
theorem dX1_pass_115 : decode cX1_pass 115 = .ok (.iload 4, 2) := dk_21 4 (dk_at dksX1_pass_4 21 rfl rfl)
theorem dX1_pass_117 : decode cX1_pass 117 = .ok (.invokevirtual 148, 3) := dk_182 0 148 (dk_at dksX1_pass_5 0 rfl rfl)
theorem dX1_pass_120 : decode cX1_pass 120 = .ok (.aload_n 0, 1) := dk_42 (dk_at dksX1_pass_5 3 rfl rfl)
theorem dX1_pass_121 : decode cX1_pass 121 = .ok (.getfield 109, 3) := dk_180 0 109 (dk_at dksX1_pass_5 4 rfl rfl)
theorem dX1_pass_124 : decode cX1_pass 124 = .ok (.putfield 155, 3) := dk_181 0 155 (dk_at dksX1_pass_5 7 rfl rfl)
theorem dX1_pass_127 : decode cX1_pass 127 = .ok (.iinc 4 1, 3) := dk_132 4 1 (dk_at dksX1_pass_5 10 rfl rfl)
theorem dX1_pass_130 : decode cX1_pass 130 = .ok (.goto (-49), 3) := dk_167 255 207 (dk_at dksX1_pass_5 13 rfl rfl)
theorem dX1_pass_133 : decode cX1_pass 133 = .ok (.iconst 0, 1) := dk_3 (dk_at dksX1_pass_5 16 rfl rfl)
theorem dX1_pass_134 : decode cX1_pass 134 = .ok (.istore 4, 2) := dk_54 4 (dk_at dksX1_pass_5 17 rfl rfl)
theorem dX1_pass_136 : decode cX1_pass 136 = .ok (.iload 4, 2) := dk_21 4 (dk_at dksX1_pass_5 19 rfl rfl)
theorem dX1_pass_138 : decode cX1_pass 138 = .ok (.aload_n 0, 1) := dk_42 (dk_at dksX1_pass_5 21 rfl rfl)
theorem dX1_pass_139 : decode cX1_pass 139 = .ok (.getfield 106, 3) := dk_180 0 106 (dk_at dksX1_pass_6 0 rfl rfl)
theorem dX1_pass_142 : decode cX1_pass 142 = .ok (.if_icmp .ge 43, 3) := dk_162 0 43 (dk_at dksX1_pass_6 3 rfl rfl)
theorem dX1_pass_145 : decode cX1_pass 145 = .ok (.aload_n 0, 1) := dk_42 (dk_at dksX1_pass_6 6 rfl rfl)
theorem dX1_pass_146 : decode cX1_pass 146 = .ok (.iload_n 1, 1) := dk_27 (dk_at dksX1_pass_6 7 rfl rfl)
theorem dX1_pass_147 : decode cX1_pass 147 = .ok (.iload 4, 2) := dk_21 4 (dk_at dksX1_pass_6 8 rfl rfl)
theorem dX1_pass_149 : decode cX1_pass 149 = .ok (.invokevirtual 148, 3) := dk_182 0 148 (dk_at dksX1_pass_6 10 rfl rfl)
theorem dX1_pass_152 : decode cX1_pass 152 = .ok (.getfield 155, 3) := dk_180 0 155 (dk_at dksX1_pass_6 13 rfl rfl)
theorem dX1_pass_155 : decode cX1_pass 155 = .ok (.aload_n 0, 1) := dk_42 (dk_at dksX1_pass_6 16 rfl rfl)
theorem dX1_pass_156 : decode cX1_pass 156 = .ok (.getfield 109, 3) := dk_180 0 109 (dk_at dksX1_pass_6 17 rfl rfl)
theorem dX1_pass_159 : decode cX1_pass 159 = .ok (.if_icmp .ne 20, 3) := dk_160 0 20 (dk_at dksX1_pass_6 20 rfl rfl)
theorem dX1_pass_162 : decode cX1_pass 162 = .ok (.aload_n 0, 1) := dk_42 (dk_at dksX1_pass_6 23 rfl rfl)
theorem dX1_pass_163 : decode cX1_pass 163 = .ok (.iload_n 1, 1) := dk_27 (dk_at dksX1_pass_7 0 rfl rfl)
theorem dX1_pass_164 : decode cX1_pass 164 = .ok (.iload 4, 2) := dk_21 4 (dk_at dksX1_pass_7 1 rfl rfl)
theorem dX1_pass_166 : decode cX1_pass 166 = .ok (.invokevirtual 148, 3) := dk_182 0 148 (dk_at dksX1_pass_7 3 rfl rfl)
theorem dX1_pass_169 : decode cX1_pass 169 = .ok (.aload_n 0, 1) := dk_42 (dk_at dksX1_pass_7 6 rfl rfl)
theorem dX1_pass_170 : decode cX1_pass 170 = .ok (.iload_n 1, 1) := dk_27 (dk_at dksX1_pass_7 7 rfl rfl)
theorem dX1_pass_171 : decode cX1_pass 171 = .ok (.iload 4, 2) := dk_21 4 (dk_at dksX1_pass_7 8 rfl rfl)
theorem dX1_pass_173 : decode cX1_pass 173 = .ok (.invokevirtual 158, 3) := dk_182 0 158 (dk_at dksX1_pass_7 10 rfl rfl)
theorem dX1_pass_176 : decode cX1_pass 176 = .ok (.putfield 138, 3) := dk_181 0 138 (dk_at dksX1_pass_7 13 rfl rfl)
theorem dX1_pass_179 : decode cX1_pass 179 = .ok (.iinc 4 1, 3) := dk_132 4 1 (dk_at dksX1_pass_7 16 rfl rfl)
theorem dX1_pass_182 : decode cX1_pass 182 = .ok (.goto (-46), 3) := dk_167 255 210 (dk_at dksX1_pass_7 19 rfl rfl)
theorem dX1_pass_185 : decode cX1_pass 185 = .ok (.aload_n 0, 1) := dk_42 (dk_at dksX1_pass_7 22 rfl rfl)
theorem dX1_pass_186 : decode cX1_pass 186 = .ok (.iconst 0, 1) := dk_3 (dk_at dksX1_pass_7 23 rfl rfl)
theorem dX1_pass_187 : decode cX1_pass 187 = .ok (.invokevirtual 162, 3) := dk_182 0 162 (dk_at dksX1_pass_8 0 rfl rfl)
theorem dX1_pass_190 : decode cX1_pass 190 = .ok (.ifCond .eq 7, 3) := dk_153 0 7 (dk_at dksX1_pass_8 3 rfl rfl)
theorem dX1_pass_193 : decode cX1_pass 193 = .ok (.iconst 1, 1) := dk_4 (dk_at dksX1_pass_8 6 rfl rfl)
theorem dX1_pass_194 : decode cX1_pass 194 = .ok (.goto 4, 3) := dk_167 0 4 (dk_at dksX1_pass_8 7 rfl rfl)
theorem dX1_pass_197 : decode cX1_pass 197 = .ok (.iconst 0, 1) := dk_3 (dk_at dksX1_pass_8 10 rfl rfl)
theorem dX1_pass_198 : decode cX1_pass 198 = .ok (.aload_n 0, 1) := dk_42 (dk_at dksX1_pass_8 11 rfl rfl)
theorem dX1_pass_199 : decode cX1_pass 199 = .ok (.iconst 1, 1) := dk_4 (dk_at dksX1_pass_8 12 rfl rfl)
theorem dX1_pass_200 : decode cX1_pass 200 = .ok (.invokevirtual 162, 3) := dk_182 0 162 (dk_at dksX1_pass_8 13 rfl rfl)
theorem dX1_pass_203 : decode cX1_pass 203 = .ok (.ifCond .eq 7, 3) := dk_153 0 7 (dk_at dksX1_pass_8 16 rfl rfl)
theorem dX1_pass_206 : decode cX1_pass 206 = .ok (.iconst 2, 1) := dk_5 (dk_at dksX1_pass_8 19 rfl rfl)
theorem dX1_pass_207 : decode cX1_pass 207 = .ok (.goto 4, 3) := dk_167 0 4 (dk_at dksX1_pass_8 20 rfl rfl)
theorem dX1_pass_210 : decode cX1_pass 210 = .ok (.iconst 0, 1) := dk_3 (dk_at dksX1_pass_8 23 rfl rfl)
theorem dX1_pass_211 : decode cX1_pass 211 = .ok (.ior, 1) := dk_128 (dk_at dksX1_pass_9 0 rfl rfl)
theorem dX1_pass_212 : decode cX1_pass 212 = .ok (.istore 4, 2) := dk_54 4 (dk_at dksX1_pass_9 1 rfl rfl)
theorem dX1_pass_214 : decode cX1_pass 214 = .ok (.iconst 0, 1) := dk_3 (dk_at dksX1_pass_9 3 rfl rfl)
theorem dX1_pass_215 : decode cX1_pass 215 = .ok (.istore 5, 2) := dk_54 5 (dk_at dksX1_pass_9 4 rfl rfl)
theorem dX1_pass_217 : decode cX1_pass 217 = .ok (.iload 5, 2) := dk_21 5 (dk_at dksX1_pass_9 6 rfl rfl)
theorem dX1_pass_219 : decode cX1_pass 219 = .ok (.aload_n 0, 1) := dk_42 (dk_at dksX1_pass_9 8 rfl rfl)
theorem dX1_pass_220 : decode cX1_pass 220 = .ok (.getfield 106, 3) := dk_180 0 106 (dk_at dksX1_pass_9 9 rfl rfl)
theorem dX1_pass_223 : decode cX1_pass 223 = .ok (.if_icmp .ge 50, 3) := dk_162 0 50 (dk_at dksX1_pass_9 12 rfl rfl)
theorem dX1_pass_226 : decode cX1_pass 226 = .ok (.aload_n 0, 1) := dk_42 (dk_at dksX1_pass_9 15 rfl rfl)
theorem dX1_pass_227 : decode cX1_pass 227 = .ok (.iload_n 1, 1) := dk_27 (dk_at dksX1_pass_9 16 rfl rfl)
theorem dX1_pass_228 : decode cX1_pass 228 = .ok (.iload 5, 2) := dk_21 5 (dk_at dksX1_pass_9 17 rfl rfl)
theorem dX1_pass_230 : decode cX1_pass 230 = .ok (.invokevirtual 148, 3) := dk_182 0 148 (dk_at dksX1_pass_9 19 rfl rfl)
theorem dX1_pass_233 : decode cX1_pass 233 = .ok (.astore 6, 2) := dk_58 6 (dk_at dksX1_pass_9 22 rfl rfl)
theorem dX1_pass_235 : decode cX1_pass 235 = .ok (.aload 6, 2) := dk_25 6 (dk_at dksX1_pass_10 0 rfl rfl)
theorem dX1_pass_237 : decode cX1_pass 237 = .ok (.getfield 155, 3) := dk_180 0 155 (dk_at dksX1_pass_10 2 rfl rfl)
theorem dX1_pass_240 : decode cX1_pass 240 = .ok (.aload_n 0, 1) := dk_42 (dk_at dksX1_pass_10 5 rfl rfl)
theorem dX1_pass_241 : decode cX1_pass 241 = .ok (.getfield 109, 3) := dk_180 0 109 (dk_at dksX1_pass_10 6 rfl rfl)
theorem dX1_pass_244 : decode cX1_pass 244 = .ok (.if_icmp .eq 6, 3) := dk_159 0 6 (dk_at dksX1_pass_10 9 rfl rfl)
theorem dX1_pass_247 : decode cX1_pass 247 = .ok (.goto 20, 3) := dk_167 0 20 (dk_at dksX1_pass_10 12 rfl rfl)
theorem dX1_pass_250 : decode cX1_pass 250 = .ok (.aload 6, 2) := dk_25 6 (dk_at dksX1_pass_10 15 rfl rfl)
theorem dX1_pass_252 : decode cX1_pass 252 = .ok (.iload 4, 2) := dk_21 4 (dk_at dksX1_pass_10 17 rfl rfl)
theorem dX1_pass_254 : decode cX1_pass 254 = .ok (.putfield 166, 3) := dk_181 0 166 (dk_at dksX1_pass_10 19 rfl rfl)
theorem dX1_pass_257 : decode cX1_pass 257 = .ok (.aload 6, 2) := dk_25 6 (dk_at dksX1_pass_10 22 rfl rfl)
theorem dX1_pass_259 : decode cX1_pass 259 = .ok (.aload 6, 2) := dk_25 6 (dk_at dksX1_pass_11 0 rfl rfl)
theorem dX1_pass_261 : decode cX1_pass 261 = .ok (.getfield 125, 3) := dk_180 0 125 (dk_at dksX1_pass_11 2 rfl rfl)
theorem dX1_pass_264 : decode cX1_pass 264 = .ok (.putfield 169, 3) := dk_181 0 169 (dk_at dksX1_pass_11 5 rfl rfl)
theorem dX1_pass_267 : decode cX1_pass 267 = .ok (.iinc 5 1, 3) := dk_132 5 1 (dk_at dksX1_pass_11 8 rfl rfl)
theorem dX1_pass_270 : decode cX1_pass 270 = .ok (.goto (-53), 3) := dk_167 255 203 (dk_at dksX1_pass_11 11 rfl rfl)
theorem dX1_pass_273 : decode cX1_pass 273 = .ok (.aload_n 0, 1) := dk_42 (dk_at dksX1_pass_11 14 rfl rfl)
theorem dX1_pass_274 : decode cX1_pass 274 = .ok (.dup, 1) := dk_89 (dk_at dksX1_pass_11 15 rfl rfl)
theorem dX1_pass_275 : decode cX1_pass 275 = .ok (.getfield 109, 3) := dk_180 0 109 (dk_at dksX1_pass_11 16 rfl rfl)
theorem dX1_pass_278 : decode cX1_pass 278 = .ok (.iconst 1, 1) := dk_4 (dk_at dksX1_pass_11 19 rfl rfl)
theorem dX1_pass_279 : decode cX1_pass 279 = .ok (.iadd, 1) := dk_96 (dk_at dksX1_pass_11 20 rfl rfl)
theorem dX1_pass_280 : decode cX1_pass 280 = .ok (.putfield 109, 3) := dk_181 0 109 (dk_at dksX1_pass_11 21 rfl rfl)
theorem dX1_pass_283 : decode cX1_pass 283 = .ok (.iload_n 3, 1) := dk_29 (dk_at dksX1_pass_12 0 rfl rfl)
theorem dX1_pass_284 : decode cX1_pass 284 = .ok (.ireturn, 1) := dk_172 (dk_at dksX1_pass_12 1 rfl rfl)
abbrev cX1_sensed : ByteArray := prog_6_method_8_code
def yX1_sensed : MethodName := ⟨RX1, "sensed", "(I)I"⟩
def dkwX1_sensed_5 : List UInt8 := [4, 54, 4, 132, 5, 1, 167, 255, 154, 167, 255, 140, 29, 172]
abbrev dktX1_sensed_5 : List UInt8 := dkwX1_sensed_5 ++ []
def dkwX1_sensed_4 : List UInt8 := [153, 0, 7, 4, 167, 0, 4, 3, 160, 0, 6, 167, 0, 16, 28, 21, 6, 128, 61, 29, 21, 7, 128, 62]
abbrev dktX1_sensed_4 : List UInt8 := dkwX1_sensed_4 ++ dktX1_sensed_5
def dkwX1_sensed_3 : List UInt8 := [182, 0, 142, 153, 0, 46, 28, 21, 6, 126, 153, 0, 7, 4, 167, 0, 4, 3, 29, 21, 7, 126]
abbrev dktX1_sensed_3 : List UInt8 := dkwX1_sensed_3 ++ dktX1_sensed_4
def dkwX1_sensed_2 : List UInt8 := [21, 5, 42, 180, 0, 106, 112, 120, 54, 7, 42, 180, 0, 12, 21, 5, 185, 0, 78, 2, 0, 192, 0, 82]
abbrev dktX1_sensed_2 : List UInt8 := dkwX1_sensed_2 ++ dktX1_sensed_3
def dkwX1_sensed_1 : List UInt8 := [180, 0, 12, 185, 0, 74, 1, 0, 162, 0, 94, 4, 21, 5, 42, 180, 0, 106, 108, 120, 54, 6, 4]
abbrev dktX1_sensed_1 : List UInt8 := dkwX1_sensed_1 ++ dktX1_sensed_2
def dkwX1_sensed_0 : List UInt8 := [4, 27, 120, 61, 3, 62, 4, 54, 4, 21, 4, 153, 0, 117, 3, 54, 4, 3, 54, 5, 21, 5, 42]
abbrev dktX1_sensed_0 : List UInt8 := dkwX1_sensed_0 ++ dktX1_sensed_1
theorem dksX1_sensed_0 : cX1_sensed.data.toList.drop 0 = dktX1_sensed_0 := by decide +kernel
theorem dksX1_sensed_1 : cX1_sensed.data.toList.drop 23 = dktX1_sensed_1 := dk_seg dksX1_sensed_0 23 rfl rfl
theorem dksX1_sensed_2 : cX1_sensed.data.toList.drop 46 = dktX1_sensed_2 := dk_seg dksX1_sensed_1 23 rfl rfl
theorem dksX1_sensed_3 : cX1_sensed.data.toList.drop 70 = dktX1_sensed_3 := dk_seg dksX1_sensed_2 24 rfl rfl
theorem dksX1_sensed_4 : cX1_sensed.data.toList.drop 92 = dktX1_sensed_4 := dk_seg dksX1_sensed_3 22 rfl rfl
theorem dksX1_sensed_5 : cX1_sensed.data.toList.drop 116 = dktX1_sensed_5 := dk_seg dksX1_sensed_4 24 rfl rfl
theorem dX1_sensed_0 : decode cX1_sensed 0 = .ok (.iconst 1, 1) := dk_4 (dk_at dksX1_sensed_0 0 rfl rfl)
theorem dX1_sensed_1 : decode cX1_sensed 1 = .ok (.iload_n 1, 1) := dk_27 (dk_at dksX1_sensed_0 1 rfl rfl)
theorem dX1_sensed_2 : decode cX1_sensed 2 = .ok (.ishl, 1) := dk_120 (dk_at dksX1_sensed_0 2 rfl rfl)
theorem dX1_sensed_3 : decode cX1_sensed 3 = .ok (.istore_n 2, 1) := dk_61 (dk_at dksX1_sensed_0 3 rfl rfl)
theorem dX1_sensed_4 : decode cX1_sensed 4 = .ok (.iconst 0, 1) := dk_3 (dk_at dksX1_sensed_0 4 rfl rfl)
theorem dX1_sensed_5 : decode cX1_sensed 5 = .ok (.istore_n 3, 1) := dk_62 (dk_at dksX1_sensed_0 5 rfl rfl)
theorem dX1_sensed_6 : decode cX1_sensed 6 = .ok (.iconst 1, 1) := dk_4 (dk_at dksX1_sensed_0 6 rfl rfl)
theorem dX1_sensed_7 : decode cX1_sensed 7 = .ok (.istore 4, 2) := dk_54 4 (dk_at dksX1_sensed_0 7 rfl rfl)
theorem dX1_sensed_9 : decode cX1_sensed 9 = .ok (.iload 4, 2) := dk_21 4 (dk_at dksX1_sensed_0 9 rfl rfl)
theorem dX1_sensed_11 : decode cX1_sensed 11 = .ok (.ifCond .eq 117, 3) := dk_153 0 117 (dk_at dksX1_sensed_0 11 rfl rfl)
theorem dX1_sensed_14 : decode cX1_sensed 14 = .ok (.iconst 0, 1) := dk_3 (dk_at dksX1_sensed_0 14 rfl rfl)
theorem dX1_sensed_15 : decode cX1_sensed 15 = .ok (.istore 4, 2) := dk_54 4 (dk_at dksX1_sensed_0 15 rfl rfl)
theorem dX1_sensed_17 : decode cX1_sensed 17 = .ok (.iconst 0, 1) := dk_3 (dk_at dksX1_sensed_0 17 rfl rfl)
theorem dX1_sensed_18 : decode cX1_sensed 18 = .ok (.istore 5, 2) := dk_54 5 (dk_at dksX1_sensed_0 18 rfl rfl)
theorem dX1_sensed_20 : decode cX1_sensed 20 = .ok (.iload 5, 2) := dk_21 5 (dk_at dksX1_sensed_0 20 rfl rfl)
theorem dX1_sensed_22 : decode cX1_sensed 22 = .ok (.aload_n 0, 1) := dk_42 (dk_at dksX1_sensed_0 22 rfl rfl)
theorem dX1_sensed_23 : decode cX1_sensed 23 = .ok (.getfield 12, 3) := dk_180 0 12 (dk_at dksX1_sensed_1 0 rfl rfl)
theorem dX1_sensed_26 : decode cX1_sensed 26 = .ok (.invokeinterface 74 1, 5) := by decide +kernel
theorem dX1_sensed_31 : decode cX1_sensed 31 = .ok (.if_icmp .ge 94, 3) := dk_162 0 94 (dk_at dksX1_sensed_1 8 rfl rfl)
theorem dX1_sensed_34 : decode cX1_sensed 34 = .ok (.iconst 1, 1) := dk_4 (dk_at dksX1_sensed_1 11 rfl rfl)
theorem dX1_sensed_35 : decode cX1_sensed 35 = .ok (.iload 5, 2) := dk_21 5 (dk_at dksX1_sensed_1 12 rfl rfl)
theorem dX1_sensed_37 : decode cX1_sensed 37 = .ok (.aload_n 0, 1) := dk_42 (dk_at dksX1_sensed_1 14 rfl rfl)
theorem dX1_sensed_38 : decode cX1_sensed 38 = .ok (.getfield 106, 3) := dk_180 0 106 (dk_at dksX1_sensed_1 15 rfl rfl)
theorem dX1_sensed_41 : decode cX1_sensed 41 = .ok (.idiv, 1) := dk_108 (dk_at dksX1_sensed_1 18 rfl rfl)
theorem dX1_sensed_42 : decode cX1_sensed 42 = .ok (.ishl, 1) := dk_120 (dk_at dksX1_sensed_1 19 rfl rfl)
theorem dX1_sensed_43 : decode cX1_sensed 43 = .ok (.istore 6, 2) := dk_54 6 (dk_at dksX1_sensed_1 20 rfl rfl)
theorem dX1_sensed_45 : decode cX1_sensed 45 = .ok (.iconst 1, 1) := dk_4 (dk_at dksX1_sensed_1 22 rfl rfl)
theorem dX1_sensed_46 : decode cX1_sensed 46 = .ok (.iload 5, 2) := dk_21 5 (dk_at dksX1_sensed_2 0 rfl rfl)
theorem dX1_sensed_48 : decode cX1_sensed 48 = .ok (.aload_n 0, 1) := dk_42 (dk_at dksX1_sensed_2 2 rfl rfl)
theorem dX1_sensed_49 : decode cX1_sensed 49 = .ok (.getfield 106, 3) := dk_180 0 106 (dk_at dksX1_sensed_2 3 rfl rfl)
theorem dX1_sensed_52 : decode cX1_sensed 52 = .ok (.irem, 1) := dk_112 (dk_at dksX1_sensed_2 6 rfl rfl)
theorem dX1_sensed_53 : decode cX1_sensed 53 = .ok (.ishl, 1) := dk_120 (dk_at dksX1_sensed_2 7 rfl rfl)
theorem dX1_sensed_54 : decode cX1_sensed 54 = .ok (.istore 7, 2) := dk_54 7 (dk_at dksX1_sensed_2 8 rfl rfl)
theorem dX1_sensed_56 : decode cX1_sensed 56 = .ok (.aload_n 0, 1) := dk_42 (dk_at dksX1_sensed_2 10 rfl rfl)
theorem dX1_sensed_57 : decode cX1_sensed 57 = .ok (.getfield 12, 3) := dk_180 0 12 (dk_at dksX1_sensed_2 11 rfl rfl)
theorem dX1_sensed_60 : decode cX1_sensed 60 = .ok (.iload 5, 2) := dk_21 5 (dk_at dksX1_sensed_2 14 rfl rfl)
theorem dX1_sensed_62 : decode cX1_sensed 62 = .ok (.invokeinterface 78 2, 5) := by decide +kernel
theorem dX1_sensed_67 : decode cX1_sensed 67 = .ok (.checkcast 82, 3) := dk_192 0 82 (dk_at dksX1_sensed_2 21 rfl rfl)
theorem dX1_sensed_70 : decode cX1_sensed 70 = .ok (.invokevirtual 142, 3) := dk_182 0 142 (dk_at dksX1_sensed_3 0 rfl rfl)
theorem dX1_sensed_73 : decode cX1_sensed 73 = .ok (.ifCond .eq 46, 3) := dk_153 0 46 (dk_at dksX1_sensed_3 3 rfl rfl)
theorem dX1_sensed_76 : decode cX1_sensed 76 = .ok (.iload_n 2, 1) := dk_28 (dk_at dksX1_sensed_3 6 rfl rfl)
theorem dX1_sensed_77 : decode cX1_sensed 77 = .ok (.iload 6, 2) := dk_21 6 (dk_at dksX1_sensed_3 7 rfl rfl)
theorem dX1_sensed_79 : decode cX1_sensed 79 = .ok (.iand, 1) := dk_126 (dk_at dksX1_sensed_3 9 rfl rfl)
theorem dX1_sensed_80 : decode cX1_sensed 80 = .ok (.ifCond .eq 7, 3) := dk_153 0 7 (dk_at dksX1_sensed_3 10 rfl rfl)
theorem dX1_sensed_83 : decode cX1_sensed 83 = .ok (.iconst 1, 1) := dk_4 (dk_at dksX1_sensed_3 13 rfl rfl)
theorem dX1_sensed_84 : decode cX1_sensed 84 = .ok (.goto 4, 3) := dk_167 0 4 (dk_at dksX1_sensed_3 14 rfl rfl)
theorem dX1_sensed_87 : decode cX1_sensed 87 = .ok (.iconst 0, 1) := dk_3 (dk_at dksX1_sensed_3 17 rfl rfl)
theorem dX1_sensed_88 : decode cX1_sensed 88 = .ok (.iload_n 3, 1) := dk_29 (dk_at dksX1_sensed_3 18 rfl rfl)
theorem dX1_sensed_89 : decode cX1_sensed 89 = .ok (.iload 7, 2) := dk_21 7 (dk_at dksX1_sensed_3 19 rfl rfl)
theorem dX1_sensed_91 : decode cX1_sensed 91 = .ok (.iand, 1) := dk_126 (dk_at dksX1_sensed_3 21 rfl rfl)
theorem dX1_sensed_92 : decode cX1_sensed 92 = .ok (.ifCond .eq 7, 3) := dk_153 0 7 (dk_at dksX1_sensed_4 0 rfl rfl)
theorem dX1_sensed_95 : decode cX1_sensed 95 = .ok (.iconst 1, 1) := dk_4 (dk_at dksX1_sensed_4 3 rfl rfl)
theorem dX1_sensed_96 : decode cX1_sensed 96 = .ok (.goto 4, 3) := dk_167 0 4 (dk_at dksX1_sensed_4 4 rfl rfl)
theorem dX1_sensed_99 : decode cX1_sensed 99 = .ok (.iconst 0, 1) := dk_3 (dk_at dksX1_sensed_4 7 rfl rfl)
theorem dX1_sensed_100 : decode cX1_sensed 100 = .ok (.if_icmp .ne 6, 3) := dk_160 0 6 (dk_at dksX1_sensed_4 8 rfl rfl)
theorem dX1_sensed_103 : decode cX1_sensed 103 = .ok (.goto 16, 3) := dk_167 0 16 (dk_at dksX1_sensed_4 11 rfl rfl)
theorem dX1_sensed_106 : decode cX1_sensed 106 = .ok (.iload_n 2, 1) := dk_28 (dk_at dksX1_sensed_4 14 rfl rfl)
theorem dX1_sensed_107 : decode cX1_sensed 107 = .ok (.iload 6, 2) := dk_21 6 (dk_at dksX1_sensed_4 15 rfl rfl)
theorem dX1_sensed_109 : decode cX1_sensed 109 = .ok (.ior, 1) := dk_128 (dk_at dksX1_sensed_4 17 rfl rfl)
theorem dX1_sensed_110 : decode cX1_sensed 110 = .ok (.istore_n 2, 1) := dk_61 (dk_at dksX1_sensed_4 18 rfl rfl)
theorem dX1_sensed_111 : decode cX1_sensed 111 = .ok (.iload_n 3, 1) := dk_29 (dk_at dksX1_sensed_4 19 rfl rfl)
theorem dX1_sensed_112 : decode cX1_sensed 112 = .ok (.iload 7, 2) := dk_21 7 (dk_at dksX1_sensed_4 20 rfl rfl)
theorem dX1_sensed_114 : decode cX1_sensed 114 = .ok (.ior, 1) := dk_128 (dk_at dksX1_sensed_4 22 rfl rfl)
theorem dX1_sensed_115 : decode cX1_sensed 115 = .ok (.istore_n 3, 1) := dk_62 (dk_at dksX1_sensed_4 23 rfl rfl)
theorem dX1_sensed_116 : decode cX1_sensed 116 = .ok (.iconst 1, 1) := dk_4 (dk_at dksX1_sensed_5 0 rfl rfl)
theorem dX1_sensed_117 : decode cX1_sensed 117 = .ok (.istore 4, 2) := dk_54 4 (dk_at dksX1_sensed_5 1 rfl rfl)
theorem dX1_sensed_119 : decode cX1_sensed 119 = .ok (.iinc 5 1, 3) := dk_132 5 1 (dk_at dksX1_sensed_5 3 rfl rfl)
theorem dX1_sensed_122 : decode cX1_sensed 122 = .ok (.goto (-102), 3) := dk_167 255 154 (dk_at dksX1_sensed_5 6 rfl rfl)
theorem dX1_sensed_125 : decode cX1_sensed 125 = .ok (.goto (-116), 3) := dk_167 255 140 (dk_at dksX1_sensed_5 9 rfl rfl)
theorem dX1_sensed_128 : decode cX1_sensed 128 = .ok (.iload_n 3, 1) := dk_29 (dk_at dksX1_sensed_5 12 rfl rfl)
theorem dX1_sensed_129 : decode cX1_sensed 129 = .ok (.ireturn, 1) := dk_172 (dk_at dksX1_sensed_5 13 rfl rfl)
abbrev cX1_at : ByteArray := prog_6_method_4_code
def yX1_at : MethodName := ⟨RX1, "at", "(II)LBlanketKeys$Key;"⟩
def dkwX1_at_0 : List UInt8 := [42, 180, 0, 12, 27, 42, 180, 0, 106, 104, 28, 96, 185, 0, 78, 2, 0, 192, 0, 82, 176]
abbrev dktX1_at_0 : List UInt8 := dkwX1_at_0 ++ []
theorem dksX1_at_0 : cX1_at.data.toList.drop 0 = dktX1_at_0 := by decide +kernel
theorem dX1_at_0 : decode cX1_at 0 = .ok (.aload_n 0, 1) := dk_42 (dk_at dksX1_at_0 0 rfl rfl)
theorem dX1_at_1 : decode cX1_at 1 = .ok (.getfield 12, 3) := dk_180 0 12 (dk_at dksX1_at_0 1 rfl rfl)
theorem dX1_at_4 : decode cX1_at 4 = .ok (.iload_n 1, 1) := dk_27 (dk_at dksX1_at_0 4 rfl rfl)
theorem dX1_at_5 : decode cX1_at 5 = .ok (.aload_n 0, 1) := dk_42 (dk_at dksX1_at_0 5 rfl rfl)
theorem dX1_at_6 : decode cX1_at 6 = .ok (.getfield 106, 3) := dk_180 0 106 (dk_at dksX1_at_0 6 rfl rfl)
theorem dX1_at_9 : decode cX1_at 9 = .ok (.imul, 1) := dk_104 (dk_at dksX1_at_0 9 rfl rfl)
theorem dX1_at_10 : decode cX1_at 10 = .ok (.iload_n 2, 1) := dk_28 (dk_at dksX1_at_0 10 rfl rfl)
theorem dX1_at_11 : decode cX1_at 11 = .ok (.iadd, 1) := dk_96 (dk_at dksX1_at_0 11 rfl rfl)
theorem dX1_at_12 : decode cX1_at 12 = .ok (.invokeinterface 78 2, 5) := by decide +kernel
theorem dX1_at_17 : decode cX1_at 17 = .ok (.checkcast 82, 3) := dk_192 0 82 (dk_at dksX1_at_0 17 rfl rfl)
theorem dX1_at_20 : decode cX1_at 20 = .ok (.areturn, 1) := dk_176 (dk_at dksX1_at_0 20 rfl rfl)
abbrev cX1_end : ByteArray := prog_6_method_14_code
def yX1_end : MethodName := ⟨RX1, "end", "(I)V"⟩
def dkwX1_end_5 : List UInt8 := [181, 0, 155, 44, 3, 181, 0, 138, 44, 3, 181, 0, 166, 44, 16, 251, 181, 0, 169, 177]
abbrev dktX1_end_5 : List UInt8 := dkwX1_end_5 ++ []
def dkwX1_end_4 : List UInt8 := [42, 25, 4, 44, 180, 0, 128, 16, 251, 160, 0, 7, 4, 167, 0, 4, 3, 182, 0, 197, 44, 16, 251]
abbrev dktX1_end_4 : List UInt8 := dkwX1_end_4 ++ dktX1_end_5
def dkwX1_end_3 : List UInt8 := [25, 4, 180, 0, 194, 6, 160, 0, 18, 42, 180, 0, 18, 25, 4, 185, 0, 67, 2, 0, 87, 167, 0, 23]
abbrev dktX1_end_3 : List UInt8 := dkwX1_end_3 ++ dktX1_end_4
def dkwX1_end_2 : List UInt8 := [183, 0, 187, 58, 4, 42, 180, 0, 26, 25, 4, 182, 0, 190, 42, 89, 180, 0, 112, 4, 96, 181, 0, 112]
abbrev dktX1_end_2 : List UInt8 := dkwX1_end_2 ++ dktX1_end_3
def dkwX1_end_1 : List UInt8 := [187, 0, 88, 89, 27, 44, 180, 0, 155, 29, 44, 180, 0, 166, 44, 180, 0, 169, 42, 44, 29, 182, 0, 183]
abbrev dktX1_end_1 : List UInt8 := dkwX1_end_1 ++ dktX1_end_2
def dkwX1_end_0 : List UInt8 := [42, 180, 0, 12, 27, 185, 0, 78, 2, 0, 192, 0, 82, 77, 42, 180, 0, 109, 44, 180, 0, 155, 100, 62]
abbrev dktX1_end_0 : List UInt8 := dkwX1_end_0 ++ dktX1_end_1
theorem dksX1_end_0 : cX1_end.data.toList.drop 0 = dktX1_end_0 := by decide +kernel
theorem dksX1_end_1 : cX1_end.data.toList.drop 24 = dktX1_end_1 := dk_seg dksX1_end_0 24 rfl rfl
theorem dksX1_end_2 : cX1_end.data.toList.drop 48 = dktX1_end_2 := dk_seg dksX1_end_1 24 rfl rfl
theorem dksX1_end_3 : cX1_end.data.toList.drop 72 = dktX1_end_3 := dk_seg dksX1_end_2 24 rfl rfl
theorem dksX1_end_4 : cX1_end.data.toList.drop 96 = dktX1_end_4 := dk_seg dksX1_end_3 24 rfl rfl
theorem dksX1_end_5 : cX1_end.data.toList.drop 119 = dktX1_end_5 := dk_seg dksX1_end_4 23 rfl rfl
theorem dX1_end_0 : decode cX1_end 0 = .ok (.aload_n 0, 1) := dk_42 (dk_at dksX1_end_0 0 rfl rfl)
theorem dX1_end_1 : decode cX1_end 1 = .ok (.getfield 12, 3) := dk_180 0 12 (dk_at dksX1_end_0 1 rfl rfl)
theorem dX1_end_4 : decode cX1_end 4 = .ok (.iload_n 1, 1) := dk_27 (dk_at dksX1_end_0 4 rfl rfl)
theorem dX1_end_5 : decode cX1_end 5 = .ok (.invokeinterface 78 2, 5) := by decide +kernel
theorem dX1_end_10 : decode cX1_end 10 = .ok (.checkcast 82, 3) := dk_192 0 82 (dk_at dksX1_end_0 10 rfl rfl)
theorem dX1_end_13 : decode cX1_end 13 = .ok (.astore_n 2, 1) := dk_77 (dk_at dksX1_end_0 13 rfl rfl)
theorem dX1_end_14 : decode cX1_end 14 = .ok (.aload_n 0, 1) := dk_42 (dk_at dksX1_end_0 14 rfl rfl)
theorem dX1_end_15 : decode cX1_end 15 = .ok (.getfield 109, 3) := dk_180 0 109 (dk_at dksX1_end_0 15 rfl rfl)
theorem dX1_end_18 : decode cX1_end 18 = .ok (.aload_n 2, 1) := dk_44 (dk_at dksX1_end_0 18 rfl rfl)
theorem dX1_end_19 : decode cX1_end 19 = .ok (.getfield 155, 3) := dk_180 0 155 (dk_at dksX1_end_0 19 rfl rfl)
theorem dX1_end_22 : decode cX1_end 22 = .ok (.isub, 1) := dk_100 (dk_at dksX1_end_0 22 rfl rfl)
theorem dX1_end_23 : decode cX1_end 23 = .ok (.istore_n 3, 1) := dk_62 (dk_at dksX1_end_0 23 rfl rfl)
theorem dX1_end_24 : decode cX1_end 24 = .ok (.new 88, 3) := dk_187 0 88 (dk_at dksX1_end_1 0 rfl rfl)
theorem dX1_end_27 : decode cX1_end 27 = .ok (.dup, 1) := dk_89 (dk_at dksX1_end_1 3 rfl rfl)
theorem dX1_end_28 : decode cX1_end 28 = .ok (.iload_n 1, 1) := dk_27 (dk_at dksX1_end_1 4 rfl rfl)
theorem dX1_end_29 : decode cX1_end 29 = .ok (.aload_n 2, 1) := dk_44 (dk_at dksX1_end_1 5 rfl rfl)
theorem dX1_end_30 : decode cX1_end 30 = .ok (.getfield 155, 3) := dk_180 0 155 (dk_at dksX1_end_1 6 rfl rfl)
theorem dX1_end_33 : decode cX1_end 33 = .ok (.iload_n 3, 1) := dk_29 (dk_at dksX1_end_1 9 rfl rfl)
theorem dX1_end_34 : decode cX1_end 34 = .ok (.aload_n 2, 1) := dk_44 (dk_at dksX1_end_1 10 rfl rfl)
theorem dX1_end_35 : decode cX1_end 35 = .ok (.getfield 166, 3) := dk_180 0 166 (dk_at dksX1_end_1 11 rfl rfl)
theorem dX1_end_38 : decode cX1_end 38 = .ok (.aload_n 2, 1) := dk_44 (dk_at dksX1_end_1 14 rfl rfl)
theorem dX1_end_39 : decode cX1_end 39 = .ok (.getfield 169, 3) := dk_180 0 169 (dk_at dksX1_end_1 15 rfl rfl)
theorem dX1_end_42 : decode cX1_end 42 = .ok (.aload_n 0, 1) := dk_42 (dk_at dksX1_end_1 18 rfl rfl)
theorem dX1_end_43 : decode cX1_end 43 = .ok (.aload_n 2, 1) := dk_44 (dk_at dksX1_end_1 19 rfl rfl)
theorem dX1_end_44 : decode cX1_end 44 = .ok (.iload_n 3, 1) := dk_29 (dk_at dksX1_end_1 20 rfl rfl)
theorem dX1_end_45 : decode cX1_end 45 = .ok (.invokevirtual 183, 3) := dk_182 0 183 (dk_at dksX1_end_1 21 rfl rfl)
theorem dX1_end_48 : decode cX1_end 48 = .ok (.invokespecial 187, 3) := dk_183 0 187 (dk_at dksX1_end_2 0 rfl rfl)
theorem dX1_end_51 : decode cX1_end 51 = .ok (.astore 4, 2) := dk_58 4 (dk_at dksX1_end_2 3 rfl rfl)
theorem dX1_end_53 : decode cX1_end 53 = .ok (.aload_n 0, 1) := dk_42 (dk_at dksX1_end_2 5 rfl rfl)
theorem dX1_end_54 : decode cX1_end 54 = .ok (.getfield 26, 3) := dk_180 0 26 (dk_at dksX1_end_2 6 rfl rfl)
theorem dX1_end_57 : decode cX1_end 57 = .ok (.aload 4, 2) := dk_25 4 (dk_at dksX1_end_2 9 rfl rfl)
theorem dX1_end_59 : decode cX1_end 59 = .ok (.invokevirtual 190, 3) := dk_182 0 190 (dk_at dksX1_end_2 11 rfl rfl)
theorem dX1_end_62 : decode cX1_end 62 = .ok (.aload_n 0, 1) := dk_42 (dk_at dksX1_end_2 14 rfl rfl)
theorem dX1_end_63 : decode cX1_end 63 = .ok (.dup, 1) := dk_89 (dk_at dksX1_end_2 15 rfl rfl)
theorem dX1_end_64 : decode cX1_end 64 = .ok (.getfield 112, 3) := dk_180 0 112 (dk_at dksX1_end_2 16 rfl rfl)
theorem dX1_end_67 : decode cX1_end 67 = .ok (.iconst 1, 1) := dk_4 (dk_at dksX1_end_2 19 rfl rfl)
theorem dX1_end_68 : decode cX1_end 68 = .ok (.iadd, 1) := dk_96 (dk_at dksX1_end_2 20 rfl rfl)
theorem dX1_end_69 : decode cX1_end 69 = .ok (.putfield 112, 3) := dk_181 0 112 (dk_at dksX1_end_2 21 rfl rfl)
theorem dX1_end_72 : decode cX1_end 72 = .ok (.aload 4, 2) := dk_25 4 (dk_at dksX1_end_3 0 rfl rfl)
theorem dX1_end_74 : decode cX1_end 74 = .ok (.getfield 194, 3) := dk_180 0 194 (dk_at dksX1_end_3 2 rfl rfl)
theorem dX1_end_77 : decode cX1_end 77 = .ok (.iconst 3, 1) := dk_6 (dk_at dksX1_end_3 5 rfl rfl)
theorem dX1_end_78 : decode cX1_end 78 = .ok (.if_icmp .ne 18, 3) := dk_160 0 18 (dk_at dksX1_end_3 6 rfl rfl)
theorem dX1_end_81 : decode cX1_end 81 = .ok (.aload_n 0, 1) := dk_42 (dk_at dksX1_end_3 9 rfl rfl)
theorem dX1_end_82 : decode cX1_end 82 = .ok (.getfield 18, 3) := dk_180 0 18 (dk_at dksX1_end_3 10 rfl rfl)
theorem dX1_end_85 : decode cX1_end 85 = .ok (.aload 4, 2) := dk_25 4 (dk_at dksX1_end_3 13 rfl rfl)
theorem dX1_end_87 : decode cX1_end 87 = .ok (.invokeinterface 67 2, 5) := by decide +kernel
theorem dX1_end_92 : decode cX1_end 92 = .ok (.pop, 1) := dk_87 (dk_at dksX1_end_3 20 rfl rfl)
theorem dX1_end_93 : decode cX1_end 93 = .ok (.goto 23, 3) := dk_167 0 23 (dk_at dksX1_end_3 21 rfl rfl)
theorem dX1_end_96 : decode cX1_end 96 = .ok (.aload_n 0, 1) := dk_42 (dk_at dksX1_end_4 0 rfl rfl)
theorem dX1_end_97 : decode cX1_end 97 = .ok (.aload 4, 2) := dk_25 4 (dk_at dksX1_end_4 1 rfl rfl)
theorem dX1_end_99 : decode cX1_end 99 = .ok (.aload_n 2, 1) := dk_44 (dk_at dksX1_end_4 3 rfl rfl)
theorem dX1_end_100 : decode cX1_end 100 = .ok (.getfield 128, 3) := dk_180 0 128 (dk_at dksX1_end_4 4 rfl rfl)
theorem dX1_end_103 : decode cX1_end 103 = .ok (.bipush (-5), 2) := dk_16 251 (dk_at dksX1_end_4 7 rfl rfl)
theorem dX1_end_105 : decode cX1_end 105 = .ok (.if_icmp .ne 7, 3) := dk_160 0 7 (dk_at dksX1_end_4 9 rfl rfl)
theorem dX1_end_108 : decode cX1_end 108 = .ok (.iconst 1, 1) := dk_4 (dk_at dksX1_end_4 12 rfl rfl)
theorem dX1_end_109 : decode cX1_end 109 = .ok (.goto 4, 3) := dk_167 0 4 (dk_at dksX1_end_4 13 rfl rfl)
theorem dX1_end_112 : decode cX1_end 112 = .ok (.iconst 0, 1) := dk_3 (dk_at dksX1_end_4 16 rfl rfl)
theorem dX1_end_113 : decode cX1_end 113 = .ok (.invokevirtual 197, 3) := dk_182 0 197 (dk_at dksX1_end_4 17 rfl rfl)
theorem dX1_end_116 : decode cX1_end 116 = .ok (.aload_n 2, 1) := dk_44 (dk_at dksX1_end_4 20 rfl rfl)
theorem dX1_end_117 : decode cX1_end 117 = .ok (.bipush (-5), 2) := dk_16 251 (dk_at dksX1_end_4 21 rfl rfl)
theorem dX1_end_119 : decode cX1_end 119 = .ok (.putfield 155, 3) := dk_181 0 155 (dk_at dksX1_end_5 0 rfl rfl)
theorem dX1_end_122 : decode cX1_end 122 = .ok (.aload_n 2, 1) := dk_44 (dk_at dksX1_end_5 3 rfl rfl)
theorem dX1_end_123 : decode cX1_end 123 = .ok (.iconst 0, 1) := dk_3 (dk_at dksX1_end_5 4 rfl rfl)
theorem dX1_end_124 : decode cX1_end 124 = .ok (.putfield 138, 3) := dk_181 0 138 (dk_at dksX1_end_5 5 rfl rfl)
theorem dX1_end_127 : decode cX1_end 127 = .ok (.aload_n 2, 1) := dk_44 (dk_at dksX1_end_5 8 rfl rfl)
theorem dX1_end_128 : decode cX1_end 128 = .ok (.iconst 0, 1) := dk_3 (dk_at dksX1_end_5 9 rfl rfl)
theorem dX1_end_129 : decode cX1_end 129 = .ok (.putfield 166, 3) := dk_181 0 166 (dk_at dksX1_end_5 10 rfl rfl)
theorem dX1_end_132 : decode cX1_end 132 = .ok (.aload_n 2, 1) := dk_44 (dk_at dksX1_end_5 13 rfl rfl)
theorem dX1_end_133 : decode cX1_end 133 = .ok (.bipush (-5), 2) := dk_16 251 (dk_at dksX1_end_5 14 rfl rfl)
theorem dX1_end_135 : decode cX1_end 135 = .ok (.putfield 169, 3) := dk_181 0 169 (dk_at dksX1_end_5 16 rfl rfl)
theorem dX1_end_138 : decode cX1_end 138 = .ok (.return_, 1) := dk_177 (dk_at dksX1_end_5 19 rfl rfl)
abbrev cX1_verdict : ByteArray := prog_6_method_13_code
def yX1_verdict : MethodName := ⟨RX1, "verdict", "(LBlanketKeys$Key;I)I"⟩
def dkwX1_verdict_6 : List UInt8 := [6, 172]
abbrev dktX1_verdict_6 : List UInt8 := dkwX1_verdict_6 ++ []
def dkwX1_verdict_5 : List UInt8 := [149, 155, 0, 5, 29, 172, 42, 180, 0, 18, 185, 0, 74, 1, 0, 16, 20, 160, 0, 7, 5, 167, 0, 4]
abbrev dktX1_verdict_5 : List UInt8 := dkwX1_verdict_5 ++ dktX1_verdict_6
def dkwX1_verdict_4 : List UInt8 := [4, 50, 43, 180, 0, 155, 28, 182, 0, 172, 102, 184, 0, 180, 56, 5, 23, 5, 42, 180, 0, 63, 3, 48]
abbrev dktX1_verdict_4 : List UInt8 := dkwX1_verdict_4 ++ dktX1_verdict_5
def dkwX1_verdict_3 : List UInt8 := [5, 167, 0, 4, 29, 172, 42, 180, 0, 56, 3, 50, 43, 180, 0, 155, 28, 182, 0, 172, 42, 180, 0, 56]
abbrev dktX1_verdict_3 : List UInt8 := dkwX1_verdict_3 ++ dktX1_verdict_4
def dkwX1_verdict_2 : List UInt8 := [182, 0, 172, 56, 4, 43, 180, 0, 138, 153, 0, 21, 23, 4, 42, 180, 0, 63, 4, 48, 149, 158, 0, 7]
abbrev dktX1_verdict_2 : List UInt8 := dkwX1_verdict_2 ++ dktX1_verdict_3
def dkwX1_verdict_1 : List UInt8 := [172, 42, 43, 180, 0, 155, 28, 182, 0, 176, 62, 42, 180, 0, 56, 29, 50, 43, 180, 0, 155, 28]
abbrev dktX1_verdict_1 : List UInt8 := dkwX1_verdict_1 ++ dktX1_verdict_2
def dkwX1_verdict_0 : List UInt8 := [43, 180, 0, 128, 16, 251, 159, 0, 19, 43, 180, 0, 138, 153, 0, 7, 5, 167, 0, 7, 43, 180, 0, 128]
abbrev dktX1_verdict_0 : List UInt8 := dkwX1_verdict_0 ++ dktX1_verdict_1
theorem dksX1_verdict_0 : cX1_verdict.data.toList.drop 0 = dktX1_verdict_0 := by decide +kernel
theorem dksX1_verdict_1 : cX1_verdict.data.toList.drop 24 = dktX1_verdict_1 := dk_seg dksX1_verdict_0 24 rfl rfl
theorem dksX1_verdict_2 : cX1_verdict.data.toList.drop 46 = dktX1_verdict_2 := dk_seg dksX1_verdict_1 22 rfl rfl
theorem dksX1_verdict_3 : cX1_verdict.data.toList.drop 70 = dktX1_verdict_3 := dk_seg dksX1_verdict_2 24 rfl rfl
theorem dksX1_verdict_4 : cX1_verdict.data.toList.drop 94 = dktX1_verdict_4 := dk_seg dksX1_verdict_3 24 rfl rfl
theorem dksX1_verdict_5 : cX1_verdict.data.toList.drop 118 = dktX1_verdict_5 := dk_seg dksX1_verdict_4 24 rfl rfl
theorem dksX1_verdict_6 : cX1_verdict.data.toList.drop 142 = dktX1_verdict_6 := dk_seg dksX1_verdict_5 24 rfl rfl
theorem dX1_verdict_0 : decode cX1_verdict 0 = .ok (.aload_n 1, 1) := dk_43 (dk_at dksX1_verdict_0 0 rfl rfl)
theorem dX1_verdict_1 : decode cX1_verdict 1 = .ok (.getfield 128, 3) := dk_180 0 128 (dk_at dksX1_verdict_0 1 rfl rfl)
theorem dX1_verdict_4 : decode cX1_verdict 4 = .ok (.bipush (-5), 2) := dk_16 251 (dk_at dksX1_verdict_0 4 rfl rfl)
theorem dX1_verdict_6 : decode cX1_verdict 6 = .ok (.if_icmp .eq 19, 3) := dk_159 0 19 (dk_at dksX1_verdict_0 6 rfl rfl)
theorem dX1_verdict_9 : decode cX1_verdict 9 = .ok (.aload_n 1, 1) := dk_43 (dk_at dksX1_verdict_0 9 rfl rfl)
theorem dX1_verdict_10 : decode cX1_verdict 10 = .ok (.getfield 138, 3) := dk_180 0 138 (dk_at dksX1_verdict_0 10 rfl rfl)
theorem dX1_verdict_13 : decode cX1_verdict 13 = .ok (.ifCond .eq 7, 3) := dk_153 0 7 (dk_at dksX1_verdict_0 13 rfl rfl)
theorem dX1_verdict_16 : decode cX1_verdict 16 = .ok (.iconst 2, 1) := dk_5 (dk_at dksX1_verdict_0 16 rfl rfl)
theorem dX1_verdict_17 : decode cX1_verdict 17 = .ok (.goto 7, 3) := dk_167 0 7 (dk_at dksX1_verdict_0 17 rfl rfl)
theorem dX1_verdict_20 : decode cX1_verdict 20 = .ok (.aload_n 1, 1) := dk_43 (dk_at dksX1_verdict_0 20 rfl rfl)
theorem dX1_verdict_21 : decode cX1_verdict 21 = .ok (.getfield 128, 3) := dk_180 0 128 (dk_at dksX1_verdict_0 21 rfl rfl)
theorem dX1_verdict_24 : decode cX1_verdict 24 = .ok (.ireturn, 1) := dk_172 (dk_at dksX1_verdict_1 0 rfl rfl)
theorem dX1_verdict_25 : decode cX1_verdict 25 = .ok (.aload_n 0, 1) := dk_42 (dk_at dksX1_verdict_1 1 rfl rfl)
theorem dX1_verdict_26 : decode cX1_verdict 26 = .ok (.aload_n 1, 1) := dk_43 (dk_at dksX1_verdict_1 2 rfl rfl)
theorem dX1_verdict_27 : decode cX1_verdict 27 = .ok (.getfield 155, 3) := dk_180 0 155 (dk_at dksX1_verdict_1 3 rfl rfl)
theorem dX1_verdict_30 : decode cX1_verdict 30 = .ok (.iload_n 2, 1) := dk_28 (dk_at dksX1_verdict_1 6 rfl rfl)
theorem dX1_verdict_31 : decode cX1_verdict 31 = .ok (.invokevirtual 176, 3) := dk_182 0 176 (dk_at dksX1_verdict_1 7 rfl rfl)
theorem dX1_verdict_34 : decode cX1_verdict 34 = .ok (.istore_n 3, 1) := dk_62 (dk_at dksX1_verdict_1 10 rfl rfl)
theorem dX1_verdict_35 : decode cX1_verdict 35 = .ok (.aload_n 0, 1) := dk_42 (dk_at dksX1_verdict_1 11 rfl rfl)
theorem dX1_verdict_36 : decode cX1_verdict 36 = .ok (.getfield 56, 3) := dk_180 0 56 (dk_at dksX1_verdict_1 12 rfl rfl)
theorem dX1_verdict_39 : decode cX1_verdict 39 = .ok (.iload_n 3, 1) := dk_29 (dk_at dksX1_verdict_1 15 rfl rfl)
theorem dX1_verdict_40 : decode cX1_verdict 40 = .ok (.aaload, 1) := dk_50 (dk_at dksX1_verdict_1 16 rfl rfl)
theorem dX1_verdict_41 : decode cX1_verdict 41 = .ok (.aload_n 1, 1) := dk_43 (dk_at dksX1_verdict_1 17 rfl rfl)
theorem dX1_verdict_42 : decode cX1_verdict 42 = .ok (.getfield 155, 3) := dk_180 0 155 (dk_at dksX1_verdict_1 18 rfl rfl)
theorem dX1_verdict_45 : decode cX1_verdict 45 = .ok (.iload_n 2, 1) := dk_28 (dk_at dksX1_verdict_1 21 rfl rfl)
theorem dX1_verdict_46 : decode cX1_verdict 46 = .ok (.invokevirtual 172, 3) := dk_182 0 172 (dk_at dksX1_verdict_2 0 rfl rfl)
theorem dX1_verdict_49 : decode cX1_verdict 49 = .ok (.fstore 4, 2) := dk_56 4 (dk_at dksX1_verdict_2 3 rfl rfl)
theorem dX1_verdict_51 : decode cX1_verdict 51 = .ok (.aload_n 1, 1) := dk_43 (dk_at dksX1_verdict_2 5 rfl rfl)
theorem dX1_verdict_52 : decode cX1_verdict 52 = .ok (.getfield 138, 3) := dk_180 0 138 (dk_at dksX1_verdict_2 6 rfl rfl)
theorem dX1_verdict_55 : decode cX1_verdict 55 = .ok (.ifCond .eq 21, 3) := dk_153 0 21 (dk_at dksX1_verdict_2 9 rfl rfl)
theorem dX1_verdict_58 : decode cX1_verdict 58 = .ok (.fload 4, 2) := dk_23 4 (dk_at dksX1_verdict_2 12 rfl rfl)
theorem dX1_verdict_60 : decode cX1_verdict 60 = .ok (.aload_n 0, 1) := dk_42 (dk_at dksX1_verdict_2 14 rfl rfl)
theorem dX1_verdict_61 : decode cX1_verdict 61 = .ok (.getfield 63, 3) := dk_180 0 63 (dk_at dksX1_verdict_2 15 rfl rfl)
theorem dX1_verdict_64 : decode cX1_verdict 64 = .ok (.iconst 1, 1) := dk_4 (dk_at dksX1_verdict_2 18 rfl rfl)
theorem dX1_verdict_65 : decode cX1_verdict 65 = .ok (.faload, 1) := dk_48 (dk_at dksX1_verdict_2 19 rfl rfl)
theorem dX1_verdict_66 : decode cX1_verdict 66 = .ok (.fcmp .l, 1) := dk_149 (dk_at dksX1_verdict_2 20 rfl rfl)
theorem dX1_verdict_67 : decode cX1_verdict 67 = .ok (.ifCond .le 7, 3) := dk_158 0 7 (dk_at dksX1_verdict_2 21 rfl rfl)
theorem dX1_verdict_70 : decode cX1_verdict 70 = .ok (.iconst 2, 1) := dk_5 (dk_at dksX1_verdict_3 0 rfl rfl)
theorem dX1_verdict_71 : decode cX1_verdict 71 = .ok (.goto 4, 3) := dk_167 0 4 (dk_at dksX1_verdict_3 1 rfl rfl)
theorem dX1_verdict_74 : decode cX1_verdict 74 = .ok (.iload_n 3, 1) := dk_29 (dk_at dksX1_verdict_3 4 rfl rfl)
theorem dX1_verdict_75 : decode cX1_verdict 75 = .ok (.ireturn, 1) := dk_172 (dk_at dksX1_verdict_3 5 rfl rfl)
theorem dX1_verdict_76 : decode cX1_verdict 76 = .ok (.aload_n 0, 1) := dk_42 (dk_at dksX1_verdict_3 6 rfl rfl)
theorem dX1_verdict_77 : decode cX1_verdict 77 = .ok (.getfield 56, 3) := dk_180 0 56 (dk_at dksX1_verdict_3 7 rfl rfl)
theorem dX1_verdict_80 : decode cX1_verdict 80 = .ok (.iconst 0, 1) := dk_3 (dk_at dksX1_verdict_3 10 rfl rfl)
theorem dX1_verdict_81 : decode cX1_verdict 81 = .ok (.aaload, 1) := dk_50 (dk_at dksX1_verdict_3 11 rfl rfl)
theorem dX1_verdict_82 : decode cX1_verdict 82 = .ok (.aload_n 1, 1) := dk_43 (dk_at dksX1_verdict_3 12 rfl rfl)
theorem dX1_verdict_83 : decode cX1_verdict 83 = .ok (.getfield 155, 3) := dk_180 0 155 (dk_at dksX1_verdict_3 13 rfl rfl)
theorem dX1_verdict_86 : decode cX1_verdict 86 = .ok (.iload_n 2, 1) := dk_28 (dk_at dksX1_verdict_3 16 rfl rfl)
theorem dX1_verdict_87 : decode cX1_verdict 87 = .ok (.invokevirtual 172, 3) := dk_182 0 172 (dk_at dksX1_verdict_3 17 rfl rfl)
theorem dX1_verdict_90 : decode cX1_verdict 90 = .ok (.aload_n 0, 1) := dk_42 (dk_at dksX1_verdict_3 20 rfl rfl)
theorem dX1_verdict_91 : decode cX1_verdict 91 = .ok (.getfield 56, 3) := dk_180 0 56 (dk_at dksX1_verdict_3 21 rfl rfl)
theorem dX1_verdict_94 : decode cX1_verdict 94 = .ok (.iconst 1, 1) := dk_4 (dk_at dksX1_verdict_4 0 rfl rfl)
theorem dX1_verdict_95 : decode cX1_verdict 95 = .ok (.aaload, 1) := dk_50 (dk_at dksX1_verdict_4 1 rfl rfl)
theorem dX1_verdict_96 : decode cX1_verdict 96 = .ok (.aload_n 1, 1) := dk_43 (dk_at dksX1_verdict_4 2 rfl rfl)
theorem dX1_verdict_97 : decode cX1_verdict 97 = .ok (.getfield 155, 3) := dk_180 0 155 (dk_at dksX1_verdict_4 3 rfl rfl)
theorem dX1_verdict_100 : decode cX1_verdict 100 = .ok (.iload_n 2, 1) := dk_28 (dk_at dksX1_verdict_4 6 rfl rfl)
theorem dX1_verdict_101 : decode cX1_verdict 101 = .ok (.invokevirtual 172, 3) := dk_182 0 172 (dk_at dksX1_verdict_4 7 rfl rfl)
theorem dX1_verdict_104 : decode cX1_verdict 104 = .ok (.fsub, 1) := dk_102 (dk_at dksX1_verdict_4 10 rfl rfl)
theorem dX1_verdict_105 : decode cX1_verdict 105 = .ok (.invokestatic 180, 3) := dk_184 0 180 (dk_at dksX1_verdict_4 11 rfl rfl)
theorem dX1_verdict_108 : decode cX1_verdict 108 = .ok (.fstore 5, 2) := dk_56 5 (dk_at dksX1_verdict_4 14 rfl rfl)
theorem dX1_verdict_110 : decode cX1_verdict 110 = .ok (.fload 5, 2) := dk_23 5 (dk_at dksX1_verdict_4 16 rfl rfl)
theorem dX1_verdict_112 : decode cX1_verdict 112 = .ok (.aload_n 0, 1) := dk_42 (dk_at dksX1_verdict_4 18 rfl rfl)
theorem dX1_verdict_113 : decode cX1_verdict 113 = .ok (.getfield 63, 3) := dk_180 0 63 (dk_at dksX1_verdict_4 19 rfl rfl)
theorem dX1_verdict_116 : decode cX1_verdict 116 = .ok (.iconst 0, 1) := dk_3 (dk_at dksX1_verdict_4 22 rfl rfl)
theorem dX1_verdict_117 : decode cX1_verdict 117 = .ok (.faload, 1) := dk_48 (dk_at dksX1_verdict_4 23 rfl rfl)
theorem dX1_verdict_118 : decode cX1_verdict 118 = .ok (.fcmp .l, 1) := dk_149 (dk_at dksX1_verdict_5 0 rfl rfl)
theorem dX1_verdict_119 : decode cX1_verdict 119 = .ok (.ifCond .lt 5, 3) := dk_155 0 5 (dk_at dksX1_verdict_5 1 rfl rfl)
theorem dX1_verdict_122 : decode cX1_verdict 122 = .ok (.iload_n 3, 1) := dk_29 (dk_at dksX1_verdict_5 4 rfl rfl)
theorem dX1_verdict_123 : decode cX1_verdict 123 = .ok (.ireturn, 1) := dk_172 (dk_at dksX1_verdict_5 5 rfl rfl)
theorem dX1_verdict_124 : decode cX1_verdict 124 = .ok (.aload_n 0, 1) := dk_42 (dk_at dksX1_verdict_5 6 rfl rfl)
theorem dX1_verdict_125 : decode cX1_verdict 125 = .ok (.getfield 18, 3) := dk_180 0 18 (dk_at dksX1_verdict_5 7 rfl rfl)
theorem dX1_verdict_128 : decode cX1_verdict 128 = .ok (.invokeinterface 74 1, 5) := by decide +kernel
theorem dX1_verdict_133 : decode cX1_verdict 133 = .ok (.bipush 20, 2) := dk_16 20 (dk_at dksX1_verdict_5 15 rfl rfl)
theorem dX1_verdict_135 : decode cX1_verdict 135 = .ok (.if_icmp .ne 7, 3) := dk_160 0 7 (dk_at dksX1_verdict_5 17 rfl rfl)
theorem dX1_verdict_138 : decode cX1_verdict 138 = .ok (.iconst 2, 1) := dk_5 (dk_at dksX1_verdict_5 20 rfl rfl)
theorem dX1_verdict_139 : decode cX1_verdict 139 = .ok (.goto 4, 3) := dk_167 0 4 (dk_at dksX1_verdict_5 21 rfl rfl)
theorem dX1_verdict_142 : decode cX1_verdict 142 = .ok (.iconst 3, 1) := dk_6 (dk_at dksX1_verdict_6 0 rfl rfl)
theorem dX1_verdict_143 : decode cX1_verdict 143 = .ok (.ireturn, 1) := dk_172 (dk_at dksX1_verdict_6 1 rfl rfl)
abbrev cX1_nearest : ByteArray := prog_6_method_12_code
def yX1_nearest : MethodName := ⟨RX1, "nearest", "(II)I"⟩
def dkwX1_nearest_1 : List UInt8 := [156, 0, 7, 4, 167, 0, 4, 3, 172]
abbrev dktX1_nearest_1 : List UInt8 := dkwX1_nearest_1 ++ []
def dkwX1_nearest_0 : List UInt8 := [42, 180, 0, 56, 4, 50, 27, 28, 182, 0, 172, 42, 180, 0, 56, 3, 50, 27, 28, 182, 0, 172, 150]
abbrev dktX1_nearest_0 : List UInt8 := dkwX1_nearest_0 ++ dktX1_nearest_1
theorem dksX1_nearest_0 : cX1_nearest.data.toList.drop 0 = dktX1_nearest_0 := by decide +kernel
theorem dksX1_nearest_1 : cX1_nearest.data.toList.drop 23 = dktX1_nearest_1 := dk_seg dksX1_nearest_0 23 rfl rfl
theorem dX1_nearest_0 : decode cX1_nearest 0 = .ok (.aload_n 0, 1) := dk_42 (dk_at dksX1_nearest_0 0 rfl rfl)
theorem dX1_nearest_1 : decode cX1_nearest 1 = .ok (.getfield 56, 3) := dk_180 0 56 (dk_at dksX1_nearest_0 1 rfl rfl)
theorem dX1_nearest_4 : decode cX1_nearest 4 = .ok (.iconst 1, 1) := dk_4 (dk_at dksX1_nearest_0 4 rfl rfl)
theorem dX1_nearest_5 : decode cX1_nearest 5 = .ok (.aaload, 1) := dk_50 (dk_at dksX1_nearest_0 5 rfl rfl)
theorem dX1_nearest_6 : decode cX1_nearest 6 = .ok (.iload_n 1, 1) := dk_27 (dk_at dksX1_nearest_0 6 rfl rfl)
theorem dX1_nearest_7 : decode cX1_nearest 7 = .ok (.iload_n 2, 1) := dk_28 (dk_at dksX1_nearest_0 7 rfl rfl)
theorem dX1_nearest_8 : decode cX1_nearest 8 = .ok (.invokevirtual 172, 3) := dk_182 0 172 (dk_at dksX1_nearest_0 8 rfl rfl)
theorem dX1_nearest_11 : decode cX1_nearest 11 = .ok (.aload_n 0, 1) := dk_42 (dk_at dksX1_nearest_0 11 rfl rfl)
theorem dX1_nearest_12 : decode cX1_nearest 12 = .ok (.getfield 56, 3) := dk_180 0 56 (dk_at dksX1_nearest_0 12 rfl rfl)
theorem dX1_nearest_15 : decode cX1_nearest 15 = .ok (.iconst 0, 1) := dk_3 (dk_at dksX1_nearest_0 15 rfl rfl)
theorem dX1_nearest_16 : decode cX1_nearest 16 = .ok (.aaload, 1) := dk_50 (dk_at dksX1_nearest_0 16 rfl rfl)
theorem dX1_nearest_17 : decode cX1_nearest 17 = .ok (.iload_n 1, 1) := dk_27 (dk_at dksX1_nearest_0 17 rfl rfl)
theorem dX1_nearest_18 : decode cX1_nearest 18 = .ok (.iload_n 2, 1) := dk_28 (dk_at dksX1_nearest_0 18 rfl rfl)
theorem dX1_nearest_19 : decode cX1_nearest 19 = .ok (.invokevirtual 172, 3) := dk_182 0 172 (dk_at dksX1_nearest_0 19 rfl rfl)
theorem dX1_nearest_22 : decode cX1_nearest 22 = .ok (.fcmp .g, 1) := dk_150 (dk_at dksX1_nearest_0 22 rfl rfl)
theorem dX1_nearest_23 : decode cX1_nearest 23 = .ok (.ifCond .ge 7, 3) := dk_156 0 7 (dk_at dksX1_nearest_1 0 rfl rfl)
theorem dX1_nearest_26 : decode cX1_nearest 26 = .ok (.iconst 1, 1) := dk_4 (dk_at dksX1_nearest_1 3 rfl rfl)
theorem dX1_nearest_27 : decode cX1_nearest 27 = .ok (.goto 4, 3) := dk_167 0 4 (dk_at dksX1_nearest_1 4 rfl rfl)
theorem dX1_nearest_30 : decode cX1_nearest 30 = .ok (.iconst 0, 1) := dk_3 (dk_at dksX1_nearest_1 7 rfl rfl)
theorem dX1_nearest_31 : decode cX1_nearest 31 = .ok (.ireturn, 1) := dk_172 (dk_at dksX1_nearest_1 8 rfl rfl)
abbrev cX1_credit : ByteArray := prog_6_method_15_code
def yX1_credit : MethodName := ⟨RX1, "credit", "(LBlanketKeys$Stroke;Z)V"⟩
def dkwX1_credit_4 : List UInt8 := [42, 180, 0, 63, 5, 48, 182, 0, 208, 42, 29, 43, 182, 0, 212, 177]
abbrev dktX1_credit_4 : List UInt8 := dkwX1_credit_4 ++ []
def dkwX1_credit_3 : List UInt8 := [167, 0, 4, 3, 96, 79, 28, 153, 0, 26, 42, 180, 0, 56, 29, 50, 43, 180, 0, 204, 43, 180, 0, 205]
abbrev dktX1_credit_3 : List UInt8 := dkwX1_credit_3 ++ dktX1_credit_4
def dkwX1_credit_2 : List UInt8 := [180, 0, 37, 29, 92, 46, 4, 96, 79, 42, 180, 0, 40, 29, 92, 46, 43, 182, 0, 201, 153, 0, 7, 4]
abbrev dktX1_credit_2 : List UInt8 := dkwX1_credit_2 ++ dktX1_credit_3
def dkwX1_credit_1 : List UInt8 := [182, 0, 201, 153, 0, 7, 4, 167, 0, 4, 3, 96, 181, 0, 118, 177, 43, 180, 0, 194, 62, 42]
abbrev dktX1_credit_1 : List UInt8 := dkwX1_credit_1 ++ dktX1_credit_2
def dkwX1_credit_0 : List UInt8 := [43, 180, 0, 194, 5, 160, 0, 35, 42, 89, 180, 0, 115, 4, 96, 181, 0, 115, 42, 89, 180, 0, 118, 43]
abbrev dktX1_credit_0 : List UInt8 := dkwX1_credit_0 ++ dktX1_credit_1
theorem dksX1_credit_0 : cX1_credit.data.toList.drop 0 = dktX1_credit_0 := by decide +kernel
theorem dksX1_credit_1 : cX1_credit.data.toList.drop 24 = dktX1_credit_1 := dk_seg dksX1_credit_0 24 rfl rfl
theorem dksX1_credit_2 : cX1_credit.data.toList.drop 46 = dktX1_credit_2 := dk_seg dksX1_credit_1 22 rfl rfl
theorem dksX1_credit_3 : cX1_credit.data.toList.drop 70 = dktX1_credit_3 := dk_seg dksX1_credit_2 24 rfl rfl
theorem dksX1_credit_4 : cX1_credit.data.toList.drop 94 = dktX1_credit_4 := dk_seg dksX1_credit_3 24 rfl rfl
theorem dX1_credit_0 : decode cX1_credit 0 = .ok (.aload_n 1, 1) := dk_43 (dk_at dksX1_credit_0 0 rfl rfl)
theorem dX1_credit_1 : decode cX1_credit 1 = .ok (.getfield 194, 3) := dk_180 0 194 (dk_at dksX1_credit_0 1 rfl rfl)
theorem dX1_credit_4 : decode cX1_credit 4 = .ok (.iconst 2, 1) := dk_5 (dk_at dksX1_credit_0 4 rfl rfl)
theorem dX1_credit_5 : decode cX1_credit 5 = .ok (.if_icmp .ne 35, 3) := dk_160 0 35 (dk_at dksX1_credit_0 5 rfl rfl)
theorem dX1_credit_8 : decode cX1_credit 8 = .ok (.aload_n 0, 1) := dk_42 (dk_at dksX1_credit_0 8 rfl rfl)
theorem dX1_credit_9 : decode cX1_credit 9 = .ok (.dup, 1) := dk_89 (dk_at dksX1_credit_0 9 rfl rfl)
theorem dX1_credit_10 : decode cX1_credit 10 = .ok (.getfield 115, 3) := dk_180 0 115 (dk_at dksX1_credit_0 10 rfl rfl)
theorem dX1_credit_13 : decode cX1_credit 13 = .ok (.iconst 1, 1) := dk_4 (dk_at dksX1_credit_0 13 rfl rfl)
theorem dX1_credit_14 : decode cX1_credit 14 = .ok (.iadd, 1) := dk_96 (dk_at dksX1_credit_0 14 rfl rfl)
theorem dX1_credit_15 : decode cX1_credit 15 = .ok (.putfield 115, 3) := dk_181 0 115 (dk_at dksX1_credit_0 15 rfl rfl)
theorem dX1_credit_18 : decode cX1_credit 18 = .ok (.aload_n 0, 1) := dk_42 (dk_at dksX1_credit_0 18 rfl rfl)
theorem dX1_credit_19 : decode cX1_credit 19 = .ok (.dup, 1) := dk_89 (dk_at dksX1_credit_0 19 rfl rfl)
theorem dX1_credit_20 : decode cX1_credit 20 = .ok (.getfield 118, 3) := dk_180 0 118 (dk_at dksX1_credit_0 20 rfl rfl)
theorem dX1_credit_23 : decode cX1_credit 23 = .ok (.aload_n 1, 1) := dk_43 (dk_at dksX1_credit_0 23 rfl rfl)
theorem dX1_credit_24 : decode cX1_credit 24 = .ok (.invokevirtual 201, 3) := dk_182 0 201 (dk_at dksX1_credit_1 0 rfl rfl)
theorem dX1_credit_27 : decode cX1_credit 27 = .ok (.ifCond .eq 7, 3) := dk_153 0 7 (dk_at dksX1_credit_1 3 rfl rfl)
theorem dX1_credit_30 : decode cX1_credit 30 = .ok (.iconst 1, 1) := dk_4 (dk_at dksX1_credit_1 6 rfl rfl)
theorem dX1_credit_31 : decode cX1_credit 31 = .ok (.goto 4, 3) := dk_167 0 4 (dk_at dksX1_credit_1 7 rfl rfl)
theorem dX1_credit_34 : decode cX1_credit 34 = .ok (.iconst 0, 1) := dk_3 (dk_at dksX1_credit_1 10 rfl rfl)
theorem dX1_credit_35 : decode cX1_credit 35 = .ok (.iadd, 1) := dk_96 (dk_at dksX1_credit_1 11 rfl rfl)
theorem dX1_credit_36 : decode cX1_credit 36 = .ok (.putfield 118, 3) := dk_181 0 118 (dk_at dksX1_credit_1 12 rfl rfl)
theorem dX1_credit_39 : decode cX1_credit 39 = .ok (.return_, 1) := dk_177 (dk_at dksX1_credit_1 15 rfl rfl)
theorem dX1_credit_40 : decode cX1_credit 40 = .ok (.aload_n 1, 1) := dk_43 (dk_at dksX1_credit_1 16 rfl rfl)
theorem dX1_credit_41 : decode cX1_credit 41 = .ok (.getfield 194, 3) := dk_180 0 194 (dk_at dksX1_credit_1 17 rfl rfl)
theorem dX1_credit_44 : decode cX1_credit 44 = .ok (.istore_n 3, 1) := dk_62 (dk_at dksX1_credit_1 20 rfl rfl)
theorem dX1_credit_45 : decode cX1_credit 45 = .ok (.aload_n 0, 1) := dk_42 (dk_at dksX1_credit_1 21 rfl rfl)
theorem dX1_credit_46 : decode cX1_credit 46 = .ok (.getfield 37, 3) := dk_180 0 37 (dk_at dksX1_credit_2 0 rfl rfl)
theorem dX1_credit_49 : decode cX1_credit 49 = .ok (.iload_n 3, 1) := dk_29 (dk_at dksX1_credit_2 3 rfl rfl)
theorem dX1_credit_50 : decode cX1_credit 50 = .ok (.dup2, 1) := dk_92 (dk_at dksX1_credit_2 4 rfl rfl)
theorem dX1_credit_51 : decode cX1_credit 51 = .ok (.iaload, 1) := dk_46 (dk_at dksX1_credit_2 5 rfl rfl)
theorem dX1_credit_52 : decode cX1_credit 52 = .ok (.iconst 1, 1) := dk_4 (dk_at dksX1_credit_2 6 rfl rfl)
theorem dX1_credit_53 : decode cX1_credit 53 = .ok (.iadd, 1) := dk_96 (dk_at dksX1_credit_2 7 rfl rfl)
theorem dX1_credit_54 : decode cX1_credit 54 = .ok (.iastore, 1) := dk_79 (dk_at dksX1_credit_2 8 rfl rfl)
theorem dX1_credit_55 : decode cX1_credit 55 = .ok (.aload_n 0, 1) := dk_42 (dk_at dksX1_credit_2 9 rfl rfl)
theorem dX1_credit_56 : decode cX1_credit 56 = .ok (.getfield 40, 3) := dk_180 0 40 (dk_at dksX1_credit_2 10 rfl rfl)
theorem dX1_credit_59 : decode cX1_credit 59 = .ok (.iload_n 3, 1) := dk_29 (dk_at dksX1_credit_2 13 rfl rfl)
theorem dX1_credit_60 : decode cX1_credit 60 = .ok (.dup2, 1) := dk_92 (dk_at dksX1_credit_2 14 rfl rfl)
theorem dX1_credit_61 : decode cX1_credit 61 = .ok (.iaload, 1) := dk_46 (dk_at dksX1_credit_2 15 rfl rfl)
theorem dX1_credit_62 : decode cX1_credit 62 = .ok (.aload_n 1, 1) := dk_43 (dk_at dksX1_credit_2 16 rfl rfl)
theorem dX1_credit_63 : decode cX1_credit 63 = .ok (.invokevirtual 201, 3) := dk_182 0 201 (dk_at dksX1_credit_2 17 rfl rfl)
theorem dX1_credit_66 : decode cX1_credit 66 = .ok (.ifCond .eq 7, 3) := dk_153 0 7 (dk_at dksX1_credit_2 20 rfl rfl)
theorem dX1_credit_69 : decode cX1_credit 69 = .ok (.iconst 1, 1) := dk_4 (dk_at dksX1_credit_2 23 rfl rfl)
theorem dX1_credit_70 : decode cX1_credit 70 = .ok (.goto 4, 3) := dk_167 0 4 (dk_at dksX1_credit_3 0 rfl rfl)
theorem dX1_credit_73 : decode cX1_credit 73 = .ok (.iconst 0, 1) := dk_3 (dk_at dksX1_credit_3 3 rfl rfl)
theorem dX1_credit_74 : decode cX1_credit 74 = .ok (.iadd, 1) := dk_96 (dk_at dksX1_credit_3 4 rfl rfl)
theorem dX1_credit_75 : decode cX1_credit 75 = .ok (.iastore, 1) := dk_79 (dk_at dksX1_credit_3 5 rfl rfl)
theorem dX1_credit_76 : decode cX1_credit 76 = .ok (.iload_n 2, 1) := dk_28 (dk_at dksX1_credit_3 6 rfl rfl)
theorem dX1_credit_77 : decode cX1_credit 77 = .ok (.ifCond .eq 26, 3) := dk_153 0 26 (dk_at dksX1_credit_3 7 rfl rfl)
theorem dX1_credit_80 : decode cX1_credit 80 = .ok (.aload_n 0, 1) := dk_42 (dk_at dksX1_credit_3 10 rfl rfl)
theorem dX1_credit_81 : decode cX1_credit 81 = .ok (.getfield 56, 3) := dk_180 0 56 (dk_at dksX1_credit_3 11 rfl rfl)
theorem dX1_credit_84 : decode cX1_credit 84 = .ok (.iload_n 3, 1) := dk_29 (dk_at dksX1_credit_3 14 rfl rfl)
theorem dX1_credit_85 : decode cX1_credit 85 = .ok (.aaload, 1) := dk_50 (dk_at dksX1_credit_3 15 rfl rfl)
theorem dX1_credit_86 : decode cX1_credit 86 = .ok (.aload_n 1, 1) := dk_43 (dk_at dksX1_credit_3 16 rfl rfl)
theorem dX1_credit_87 : decode cX1_credit 87 = .ok (.getfield 204, 3) := dk_180 0 204 (dk_at dksX1_credit_3 17 rfl rfl)
theorem dX1_credit_90 : decode cX1_credit 90 = .ok (.aload_n 1, 1) := dk_43 (dk_at dksX1_credit_3 20 rfl rfl)
theorem dX1_credit_91 : decode cX1_credit 91 = .ok (.getfield 205, 3) := dk_180 0 205 (dk_at dksX1_credit_3 21 rfl rfl)
theorem dX1_credit_94 : decode cX1_credit 94 = .ok (.aload_n 0, 1) := dk_42 (dk_at dksX1_credit_4 0 rfl rfl)
theorem dX1_credit_95 : decode cX1_credit 95 = .ok (.getfield 63, 3) := dk_180 0 63 (dk_at dksX1_credit_4 1 rfl rfl)
theorem dX1_credit_98 : decode cX1_credit 98 = .ok (.iconst 2, 1) := dk_5 (dk_at dksX1_credit_4 4 rfl rfl)
theorem dX1_credit_99 : decode cX1_credit 99 = .ok (.faload, 1) := dk_48 (dk_at dksX1_credit_4 5 rfl rfl)
theorem dX1_credit_100 : decode cX1_credit 100 = .ok (.invokevirtual 208, 3) := dk_182 0 208 (dk_at dksX1_credit_4 6 rfl rfl)
theorem dX1_credit_103 : decode cX1_credit 103 = .ok (.aload_n 0, 1) := dk_42 (dk_at dksX1_credit_4 9 rfl rfl)
theorem dX1_credit_104 : decode cX1_credit 104 = .ok (.iload_n 3, 1) := dk_29 (dk_at dksX1_credit_4 10 rfl rfl)
theorem dX1_credit_105 : decode cX1_credit 105 = .ok (.aload_n 1, 1) := dk_43 (dk_at dksX1_credit_4 11 rfl rfl)
theorem dX1_credit_106 : decode cX1_credit 106 = .ok (.invokevirtual 212, 3) := dk_182 0 212 (dk_at dksX1_credit_4 12 rfl rfl)
theorem dX1_credit_109 : decode cX1_credit 109 = .ok (.return_, 1) := dk_177 (dk_at dksX1_credit_4 15 rfl rfl)
abbrev cX1_write : ByteArray := prog_6_method_16_code
def yX1_write : MethodName := ⟨RX1, "write", "(ILBlanketKeys$Stroke;)V"⟩
def dkwX1_write_5 : List UInt8 := [146, 167, 0, 4, 29, 184, 0, 228, 182, 0, 190, 42, 180, 0, 33, 27, 92, 46, 4, 96, 79, 177]
abbrev dktX1_write_5 : List UInt8 := dkwX1_write_5 ++ []
def dkwX1_write_4 : List UInt8 := [180, 0, 30, 27, 185, 0, 78, 2, 0, 192, 0, 21, 21, 5, 153, 0, 14, 29, 16, 97, 100, 16, 65, 96]
abbrev dktX1_write_4 : List UInt8 := dkwX1_write_4 ++ dktX1_write_5
def dkwX1_write_3 : List UInt8 := [153, 0, 20, 44, 180, 0, 227, 21, 4, 122, 4, 126, 4, 160, 0, 7, 4, 167, 0, 4, 3, 54, 5, 42]
abbrev dktX1_write_3 : List UInt8 := dkwX1_write_3 ++ dktX1_write_4
def dkwX1_write_2 : List UInt8 := [177, 4, 27, 100, 54, 4, 44, 180, 0, 227, 27, 122, 4, 126, 4, 159, 0, 25, 42, 180, 0, 43, 27, 51]
abbrev dktX1_write_2 : List UInt8 := dkwX1_write_2 ++ dktX1_write_3
def dkwX1_write_1 : List UInt8 := [185, 0, 78, 2, 0, 192, 0, 82, 180, 0, 219, 167, 0, 5, 16, 46, 62, 29, 184, 0, 223, 154, 0, 4]
abbrev dktX1_write_1 : List UInt8 := dkwX1_write_1 ++ dktX1_write_2
def dkwX1_write_0 : List UInt8 := [44, 180, 0, 216, 42, 180, 0, 12, 185, 0, 74, 1, 0, 162, 0, 25, 42, 180, 0, 12, 44, 180, 0, 216]
abbrev dktX1_write_0 : List UInt8 := dkwX1_write_0 ++ dktX1_write_1
theorem dksX1_write_0 : cX1_write.data.toList.drop 0 = dktX1_write_0 := by decide +kernel
theorem dksX1_write_1 : cX1_write.data.toList.drop 24 = dktX1_write_1 := dk_seg dksX1_write_0 24 rfl rfl
theorem dksX1_write_2 : cX1_write.data.toList.drop 48 = dktX1_write_2 := dk_seg dksX1_write_1 24 rfl rfl
theorem dksX1_write_3 : cX1_write.data.toList.drop 72 = dktX1_write_3 := dk_seg dksX1_write_2 24 rfl rfl
theorem dksX1_write_4 : cX1_write.data.toList.drop 96 = dktX1_write_4 := dk_seg dksX1_write_3 24 rfl rfl
theorem dksX1_write_5 : cX1_write.data.toList.drop 120 = dktX1_write_5 := dk_seg dksX1_write_4 24 rfl rfl
theorem dX1_write_0 : decode cX1_write 0 = .ok (.aload_n 2, 1) := dk_44 (dk_at dksX1_write_0 0 rfl rfl)
theorem dX1_write_1 : decode cX1_write 1 = .ok (.getfield 216, 3) := dk_180 0 216 (dk_at dksX1_write_0 1 rfl rfl)
theorem dX1_write_4 : decode cX1_write 4 = .ok (.aload_n 0, 1) := dk_42 (dk_at dksX1_write_0 4 rfl rfl)
theorem dX1_write_5 : decode cX1_write 5 = .ok (.getfield 12, 3) := dk_180 0 12 (dk_at dksX1_write_0 5 rfl rfl)
theorem dX1_write_8 : decode cX1_write 8 = .ok (.invokeinterface 74 1, 5) := by decide +kernel
theorem dX1_write_13 : decode cX1_write 13 = .ok (.if_icmp .ge 25, 3) := dk_162 0 25 (dk_at dksX1_write_0 13 rfl rfl)
theorem dX1_write_16 : decode cX1_write 16 = .ok (.aload_n 0, 1) := dk_42 (dk_at dksX1_write_0 16 rfl rfl)
theorem dX1_write_17 : decode cX1_write 17 = .ok (.getfield 12, 3) := dk_180 0 12 (dk_at dksX1_write_0 17 rfl rfl)
theorem dX1_write_20 : decode cX1_write 20 = .ok (.aload_n 2, 1) := dk_44 (dk_at dksX1_write_0 20 rfl rfl)
theorem dX1_write_21 : decode cX1_write 21 = .ok (.getfield 216, 3) := dk_180 0 216 (dk_at dksX1_write_0 21 rfl rfl)
theorem dX1_write_24 : decode cX1_write 24 = .ok (.invokeinterface 78 2, 5) := by decide +kernel
theorem dX1_write_29 : decode cX1_write 29 = .ok (.checkcast 82, 3) := dk_192 0 82 (dk_at dksX1_write_1 5 rfl rfl)
theorem dX1_write_32 : decode cX1_write 32 = .ok (.getfield 219, 3) := dk_180 0 219 (dk_at dksX1_write_1 8 rfl rfl)
theorem dX1_write_35 : decode cX1_write 35 = .ok (.goto 5, 3) := dk_167 0 5 (dk_at dksX1_write_1 11 rfl rfl)
theorem dX1_write_38 : decode cX1_write 38 = .ok (.bipush 46, 2) := dk_16 46 (dk_at dksX1_write_1 14 rfl rfl)
theorem dX1_write_40 : decode cX1_write 40 = .ok (.istore_n 3, 1) := dk_62 (dk_at dksX1_write_1 16 rfl rfl)
theorem dX1_write_41 : decode cX1_write 41 = .ok (.iload_n 3, 1) := dk_29 (dk_at dksX1_write_1 17 rfl rfl)
theorem dX1_write_42 : decode cX1_write 42 = .ok (.invokestatic 223, 3) := dk_184 0 223 (dk_at dksX1_write_1 18 rfl rfl)
theorem dX1_write_45 : decode cX1_write 45 = .ok (.ifCond .ne 4, 3) := dk_154 0 4 (dk_at dksX1_write_1 21 rfl rfl)
theorem dX1_write_48 : decode cX1_write 48 = .ok (.return_, 1) := dk_177 (dk_at dksX1_write_2 0 rfl rfl)
theorem dX1_write_49 : decode cX1_write 49 = .ok (.iconst 1, 1) := dk_4 (dk_at dksX1_write_2 1 rfl rfl)
theorem dX1_write_50 : decode cX1_write 50 = .ok (.iload_n 1, 1) := dk_27 (dk_at dksX1_write_2 2 rfl rfl)
theorem dX1_write_51 : decode cX1_write 51 = .ok (.isub, 1) := dk_100 (dk_at dksX1_write_2 3 rfl rfl)
theorem dX1_write_52 : decode cX1_write 52 = .ok (.istore 4, 2) := dk_54 4 (dk_at dksX1_write_2 4 rfl rfl)
theorem dX1_write_54 : decode cX1_write 54 = .ok (.aload_n 2, 1) := dk_44 (dk_at dksX1_write_2 6 rfl rfl)
theorem dX1_write_55 : decode cX1_write 55 = .ok (.getfield 227, 3) := dk_180 0 227 (dk_at dksX1_write_2 7 rfl rfl)
theorem dX1_write_58 : decode cX1_write 58 = .ok (.iload_n 1, 1) := dk_27 (dk_at dksX1_write_2 10 rfl rfl)
theorem dX1_write_59 : decode cX1_write 59 = .ok (.ishr, 1) := dk_122 (dk_at dksX1_write_2 11 rfl rfl)
theorem dX1_write_60 : decode cX1_write 60 = .ok (.iconst 1, 1) := dk_4 (dk_at dksX1_write_2 12 rfl rfl)
theorem dX1_write_61 : decode cX1_write 61 = .ok (.iand, 1) := dk_126 (dk_at dksX1_write_2 13 rfl rfl)
theorem dX1_write_62 : decode cX1_write 62 = .ok (.iconst 1, 1) := dk_4 (dk_at dksX1_write_2 14 rfl rfl)
theorem dX1_write_63 : decode cX1_write 63 = .ok (.if_icmp .eq 25, 3) := dk_159 0 25 (dk_at dksX1_write_2 15 rfl rfl)
theorem dX1_write_66 : decode cX1_write 66 = .ok (.aload_n 0, 1) := dk_42 (dk_at dksX1_write_2 18 rfl rfl)
theorem dX1_write_67 : decode cX1_write 67 = .ok (.getfield 43, 3) := dk_180 0 43 (dk_at dksX1_write_2 19 rfl rfl)
theorem dX1_write_70 : decode cX1_write 70 = .ok (.iload_n 1, 1) := dk_27 (dk_at dksX1_write_2 22 rfl rfl)
theorem dX1_write_71 : decode cX1_write 71 = .ok (.baload, 1) := dk_51 (dk_at dksX1_write_2 23 rfl rfl)
theorem dX1_write_72 : decode cX1_write 72 = .ok (.ifCond .eq 20, 3) := dk_153 0 20 (dk_at dksX1_write_3 0 rfl rfl)
theorem dX1_write_75 : decode cX1_write 75 = .ok (.aload_n 2, 1) := dk_44 (dk_at dksX1_write_3 3 rfl rfl)
theorem dX1_write_76 : decode cX1_write 76 = .ok (.getfield 227, 3) := dk_180 0 227 (dk_at dksX1_write_3 4 rfl rfl)
theorem dX1_write_79 : decode cX1_write 79 = .ok (.iload 4, 2) := dk_21 4 (dk_at dksX1_write_3 7 rfl rfl)
theorem dX1_write_81 : decode cX1_write 81 = .ok (.ishr, 1) := dk_122 (dk_at dksX1_write_3 9 rfl rfl)
theorem dX1_write_82 : decode cX1_write 82 = .ok (.iconst 1, 1) := dk_4 (dk_at dksX1_write_3 10 rfl rfl)
theorem dX1_write_83 : decode cX1_write 83 = .ok (.iand, 1) := dk_126 (dk_at dksX1_write_3 11 rfl rfl)
theorem dX1_write_84 : decode cX1_write 84 = .ok (.iconst 1, 1) := dk_4 (dk_at dksX1_write_3 12 rfl rfl)
theorem dX1_write_85 : decode cX1_write 85 = .ok (.if_icmp .ne 7, 3) := dk_160 0 7 (dk_at dksX1_write_3 13 rfl rfl)
theorem dX1_write_88 : decode cX1_write 88 = .ok (.iconst 1, 1) := dk_4 (dk_at dksX1_write_3 16 rfl rfl)
theorem dX1_write_89 : decode cX1_write 89 = .ok (.goto 4, 3) := dk_167 0 4 (dk_at dksX1_write_3 17 rfl rfl)
theorem dX1_write_92 : decode cX1_write 92 = .ok (.iconst 0, 1) := dk_3 (dk_at dksX1_write_3 20 rfl rfl)
theorem dX1_write_93 : decode cX1_write 93 = .ok (.istore 5, 2) := dk_54 5 (dk_at dksX1_write_3 21 rfl rfl)
theorem dX1_write_95 : decode cX1_write 95 = .ok (.aload_n 0, 1) := dk_42 (dk_at dksX1_write_3 23 rfl rfl)
theorem dX1_write_96 : decode cX1_write 96 = .ok (.getfield 30, 3) := dk_180 0 30 (dk_at dksX1_write_4 0 rfl rfl)
theorem dX1_write_99 : decode cX1_write 99 = .ok (.iload_n 1, 1) := dk_27 (dk_at dksX1_write_4 3 rfl rfl)
theorem dX1_write_100 : decode cX1_write 100 = .ok (.invokeinterface 78 2, 5) := by decide +kernel
theorem dX1_write_105 : decode cX1_write 105 = .ok (.checkcast 21, 3) := dk_192 0 21 (dk_at dksX1_write_4 9 rfl rfl)
theorem dX1_write_108 : decode cX1_write 108 = .ok (.iload 5, 2) := dk_21 5 (dk_at dksX1_write_4 12 rfl rfl)
theorem dX1_write_110 : decode cX1_write 110 = .ok (.ifCond .eq 14, 3) := dk_153 0 14 (dk_at dksX1_write_4 14 rfl rfl)
theorem dX1_write_113 : decode cX1_write 113 = .ok (.iload_n 3, 1) := dk_29 (dk_at dksX1_write_4 17 rfl rfl)
theorem dX1_write_114 : decode cX1_write 114 = .ok (.bipush 97, 2) := dk_16 97 (dk_at dksX1_write_4 18 rfl rfl)
theorem dX1_write_116 : decode cX1_write 116 = .ok (.isub, 1) := dk_100 (dk_at dksX1_write_4 20 rfl rfl)
theorem dX1_write_117 : decode cX1_write 117 = .ok (.bipush 65, 2) := dk_16 65 (dk_at dksX1_write_4 21 rfl rfl)
theorem dX1_write_119 : decode cX1_write 119 = .ok (.iadd, 1) := dk_96 (dk_at dksX1_write_4 23 rfl rfl)
theorem dX1_write_120 : decode cX1_write 120 = .ok (.i2c, 1) := dk_146 (dk_at dksX1_write_5 0 rfl rfl)
theorem dX1_write_121 : decode cX1_write 121 = .ok (.goto 4, 3) := dk_167 0 4 (dk_at dksX1_write_5 1 rfl rfl)
theorem dX1_write_124 : decode cX1_write 124 = .ok (.iload_n 3, 1) := dk_29 (dk_at dksX1_write_5 4 rfl rfl)
theorem dX1_write_125 : decode cX1_write 125 = .ok (.invokestatic 228, 3) := dk_184 0 228 (dk_at dksX1_write_5 5 rfl rfl)
theorem dX1_write_128 : decode cX1_write 128 = .ok (.invokevirtual 190, 3) := dk_182 0 190 (dk_at dksX1_write_5 8 rfl rfl)
theorem dX1_write_131 : decode cX1_write 131 = .ok (.aload_n 0, 1) := dk_42 (dk_at dksX1_write_5 11 rfl rfl)
theorem dX1_write_132 : decode cX1_write 132 = .ok (.getfield 33, 3) := dk_180 0 33 (dk_at dksX1_write_5 12 rfl rfl)
theorem dX1_write_135 : decode cX1_write 135 = .ok (.iload_n 1, 1) := dk_27 (dk_at dksX1_write_5 15 rfl rfl)
theorem dX1_write_136 : decode cX1_write 136 = .ok (.dup2, 1) := dk_92 (dk_at dksX1_write_5 16 rfl rfl)
theorem dX1_write_137 : decode cX1_write 137 = .ok (.iaload, 1) := dk_46 (dk_at dksX1_write_5 17 rfl rfl)
theorem dX1_write_138 : decode cX1_write 138 = .ok (.iconst 1, 1) := dk_4 (dk_at dksX1_write_5 18 rfl rfl)
theorem dX1_write_139 : decode cX1_write 139 = .ok (.iadd, 1) := dk_96 (dk_at dksX1_write_5 19 rfl rfl)
theorem dX1_write_140 : decode cX1_write 140 = .ok (.iastore, 1) := dk_79 (dk_at dksX1_write_5 20 rfl rfl)
theorem dX1_write_141 : decode cX1_write 141 = .ok (.return_, 1) := dk_177 (dk_at dksX1_write_5 21 rfl rfl)
abbrev cX1_isCorner : ByteArray := prog_6_method_10_code
def yX1_isCorner : MethodName := ⟨RX1, "isCorner", "(II)Z"⟩
def dkwX1_isCorner_3 : List UInt8 := [153, 0, 5, 4, 172, 132, 4, 1, 167, 255, 210, 132, 3, 1, 167, 255, 173, 3, 172]
abbrev dktX1_isCorner_3 : List UInt8 := dkwX1_isCorner_3 ++ []
def dkwX1_isCorner_2 : List UInt8 := [42, 27, 21, 4, 182, 0, 148, 182, 0, 134, 153, 0, 18, 42, 29, 21, 4, 182, 0, 148, 182, 0, 134]
abbrev dktX1_isCorner_2 : List UInt8 := dkwX1_isCorner_2 ++ dktX1_isCorner_3
def dkwX1_isCorner_1 : List UInt8 := [154, 0, 6, 167, 0, 55, 3, 54, 4, 21, 4, 42, 180, 0, 106, 162, 0, 43, 21, 4, 28, 159, 0, 31]
abbrev dktX1_isCorner_1 : List UInt8 := dkwX1_isCorner_1 ++ dktX1_isCorner_2
def dkwX1_isCorner_0 : List UInt8 := [3, 62, 29, 42, 180, 0, 102, 162, 0, 81, 29, 27, 159, 0, 70, 42, 29, 28, 182, 0, 148, 182, 0, 134]
abbrev dktX1_isCorner_0 : List UInt8 := dkwX1_isCorner_0 ++ dktX1_isCorner_1
theorem dksX1_isCorner_0 : cX1_isCorner.data.toList.drop 0 = dktX1_isCorner_0 := by decide +kernel
theorem dksX1_isCorner_1 : cX1_isCorner.data.toList.drop 24 = dktX1_isCorner_1 := dk_seg dksX1_isCorner_0 24 rfl rfl
theorem dksX1_isCorner_2 : cX1_isCorner.data.toList.drop 48 = dktX1_isCorner_2 := dk_seg dksX1_isCorner_1 24 rfl rfl
theorem dksX1_isCorner_3 : cX1_isCorner.data.toList.drop 71 = dktX1_isCorner_3 := dk_seg dksX1_isCorner_2 23 rfl rfl
theorem dX1_isCorner_0 : decode cX1_isCorner 0 = .ok (.iconst 0, 1) := dk_3 (dk_at dksX1_isCorner_0 0 rfl rfl)
theorem dX1_isCorner_1 : decode cX1_isCorner 1 = .ok (.istore_n 3, 1) := dk_62 (dk_at dksX1_isCorner_0 1 rfl rfl)
theorem dX1_isCorner_2 : decode cX1_isCorner 2 = .ok (.iload_n 3, 1) := dk_29 (dk_at dksX1_isCorner_0 2 rfl rfl)
theorem dX1_isCorner_3 : decode cX1_isCorner 3 = .ok (.aload_n 0, 1) := dk_42 (dk_at dksX1_isCorner_0 3 rfl rfl)
theorem dX1_isCorner_4 : decode cX1_isCorner 4 = .ok (.getfield 102, 3) := dk_180 0 102 (dk_at dksX1_isCorner_0 4 rfl rfl)
theorem dX1_isCorner_7 : decode cX1_isCorner 7 = .ok (.if_icmp .ge 81, 3) := dk_162 0 81 (dk_at dksX1_isCorner_0 7 rfl rfl)
theorem dX1_isCorner_10 : decode cX1_isCorner 10 = .ok (.iload_n 3, 1) := dk_29 (dk_at dksX1_isCorner_0 10 rfl rfl)
theorem dX1_isCorner_11 : decode cX1_isCorner 11 = .ok (.iload_n 1, 1) := dk_27 (dk_at dksX1_isCorner_0 11 rfl rfl)
theorem dX1_isCorner_12 : decode cX1_isCorner 12 = .ok (.if_icmp .eq 70, 3) := dk_159 0 70 (dk_at dksX1_isCorner_0 12 rfl rfl)
theorem dX1_isCorner_15 : decode cX1_isCorner 15 = .ok (.aload_n 0, 1) := dk_42 (dk_at dksX1_isCorner_0 15 rfl rfl)
theorem dX1_isCorner_16 : decode cX1_isCorner 16 = .ok (.iload_n 3, 1) := dk_29 (dk_at dksX1_isCorner_0 16 rfl rfl)
theorem dX1_isCorner_17 : decode cX1_isCorner 17 = .ok (.iload_n 2, 1) := dk_28 (dk_at dksX1_isCorner_0 17 rfl rfl)
theorem dX1_isCorner_18 : decode cX1_isCorner 18 = .ok (.invokevirtual 148, 3) := dk_182 0 148 (dk_at dksX1_isCorner_0 18 rfl rfl)
theorem dX1_isCorner_21 : decode cX1_isCorner 21 = .ok (.invokevirtual 134, 3) := dk_182 0 134 (dk_at dksX1_isCorner_0 21 rfl rfl)
theorem dX1_isCorner_24 : decode cX1_isCorner 24 = .ok (.ifCond .ne 6, 3) := dk_154 0 6 (dk_at dksX1_isCorner_1 0 rfl rfl)
theorem dX1_isCorner_27 : decode cX1_isCorner 27 = .ok (.goto 55, 3) := dk_167 0 55 (dk_at dksX1_isCorner_1 3 rfl rfl)
theorem dX1_isCorner_30 : decode cX1_isCorner 30 = .ok (.iconst 0, 1) := dk_3 (dk_at dksX1_isCorner_1 6 rfl rfl)
theorem dX1_isCorner_31 : decode cX1_isCorner 31 = .ok (.istore 4, 2) := dk_54 4 (dk_at dksX1_isCorner_1 7 rfl rfl)
theorem dX1_isCorner_33 : decode cX1_isCorner 33 = .ok (.iload 4, 2) := dk_21 4 (dk_at dksX1_isCorner_1 9 rfl rfl)
theorem dX1_isCorner_35 : decode cX1_isCorner 35 = .ok (.aload_n 0, 1) := dk_42 (dk_at dksX1_isCorner_1 11 rfl rfl)
theorem dX1_isCorner_36 : decode cX1_isCorner 36 = .ok (.getfield 106, 3) := dk_180 0 106 (dk_at dksX1_isCorner_1 12 rfl rfl)
theorem dX1_isCorner_39 : decode cX1_isCorner 39 = .ok (.if_icmp .ge 43, 3) := dk_162 0 43 (dk_at dksX1_isCorner_1 15 rfl rfl)
theorem dX1_isCorner_42 : decode cX1_isCorner 42 = .ok (.iload 4, 2) := dk_21 4 (dk_at dksX1_isCorner_1 18 rfl rfl)
theorem dX1_isCorner_44 : decode cX1_isCorner 44 = .ok (.iload_n 2, 1) := dk_28 (dk_at dksX1_isCorner_1 20 rfl rfl)
theorem dX1_isCorner_45 : decode cX1_isCorner 45 = .ok (.if_icmp .eq 31, 3) := dk_159 0 31 (dk_at dksX1_isCorner_1 21 rfl rfl)
theorem dX1_isCorner_48 : decode cX1_isCorner 48 = .ok (.aload_n 0, 1) := dk_42 (dk_at dksX1_isCorner_2 0 rfl rfl)
theorem dX1_isCorner_49 : decode cX1_isCorner 49 = .ok (.iload_n 1, 1) := dk_27 (dk_at dksX1_isCorner_2 1 rfl rfl)
theorem dX1_isCorner_50 : decode cX1_isCorner 50 = .ok (.iload 4, 2) := dk_21 4 (dk_at dksX1_isCorner_2 2 rfl rfl)
theorem dX1_isCorner_52 : decode cX1_isCorner 52 = .ok (.invokevirtual 148, 3) := dk_182 0 148 (dk_at dksX1_isCorner_2 4 rfl rfl)
theorem dX1_isCorner_55 : decode cX1_isCorner 55 = .ok (.invokevirtual 134, 3) := dk_182 0 134 (dk_at dksX1_isCorner_2 7 rfl rfl)
theorem dX1_isCorner_58 : decode cX1_isCorner 58 = .ok (.ifCond .eq 18, 3) := dk_153 0 18 (dk_at dksX1_isCorner_2 10 rfl rfl)
theorem dX1_isCorner_61 : decode cX1_isCorner 61 = .ok (.aload_n 0, 1) := dk_42 (dk_at dksX1_isCorner_2 13 rfl rfl)
theorem dX1_isCorner_62 : decode cX1_isCorner 62 = .ok (.iload_n 3, 1) := dk_29 (dk_at dksX1_isCorner_2 14 rfl rfl)
theorem dX1_isCorner_63 : decode cX1_isCorner 63 = .ok (.iload 4, 2) := dk_21 4 (dk_at dksX1_isCorner_2 15 rfl rfl)
theorem dX1_isCorner_65 : decode cX1_isCorner 65 = .ok (.invokevirtual 148, 3) := dk_182 0 148 (dk_at dksX1_isCorner_2 17 rfl rfl)
theorem dX1_isCorner_68 : decode cX1_isCorner 68 = .ok (.invokevirtual 134, 3) := dk_182 0 134 (dk_at dksX1_isCorner_2 20 rfl rfl)
theorem dX1_isCorner_71 : decode cX1_isCorner 71 = .ok (.ifCond .eq 5, 3) := dk_153 0 5 (dk_at dksX1_isCorner_3 0 rfl rfl)
theorem dX1_isCorner_74 : decode cX1_isCorner 74 = .ok (.iconst 1, 1) := dk_4 (dk_at dksX1_isCorner_3 3 rfl rfl)
theorem dX1_isCorner_75 : decode cX1_isCorner 75 = .ok (.ireturn, 1) := dk_172 (dk_at dksX1_isCorner_3 4 rfl rfl)
theorem dX1_isCorner_76 : decode cX1_isCorner 76 = .ok (.iinc 4 1, 3) := dk_132 4 1 (dk_at dksX1_isCorner_3 5 rfl rfl)
theorem dX1_isCorner_79 : decode cX1_isCorner 79 = .ok (.goto (-46), 3) := dk_167 255 210 (dk_at dksX1_isCorner_3 8 rfl rfl)
theorem dX1_isCorner_82 : decode cX1_isCorner 82 = .ok (.iinc 3 1, 3) := dk_132 3 1 (dk_at dksX1_isCorner_3 11 rfl rfl)
theorem dX1_isCorner_85 : decode cX1_isCorner 85 = .ok (.goto (-83), 3) := dk_167 255 173 (dk_at dksX1_isCorner_3 14 rfl rfl)
theorem dX1_isCorner_88 : decode cX1_isCorner 88 = .ok (.iconst 0, 1) := dk_3 (dk_at dksX1_isCorner_3 17 rfl rfl)
theorem dX1_isCorner_89 : decode cX1_isCorner 89 = .ok (.ireturn, 1) := dk_172 (dk_at dksX1_isCorner_3 18 rfl rfl)
abbrev cX1_isShiftOn : ByteArray := prog_6_method_7_code
def yX1_isShiftOn : MethodName := ⟨RX1, "isShiftOn", "(I)Z"⟩
def dkwX1_isShiftOn_2 : List UInt8 := [180, 0, 138, 154, 0, 7, 4, 167, 0, 4, 3, 172]
abbrev dktX1_isShiftOn_2 : List UInt8 := dkwX1_isShiftOn_2 ++ []
def dkwX1_isShiftOn_1 : List UInt8 := [192, 0, 82, 182, 0, 134, 153, 0, 26, 42, 180, 0, 12, 28, 185, 0, 78, 2, 0, 192, 0, 82]
abbrev dktX1_isShiftOn_1 : List UInt8 := dkwX1_isShiftOn_1 ++ dktX1_isShiftOn_2
def dkwX1_isShiftOn_0 : List UInt8 := [42, 27, 182, 0, 131, 61, 28, 16, 251, 159, 0, 45, 42, 180, 0, 12, 28, 185, 0, 78, 2, 0]
abbrev dktX1_isShiftOn_0 : List UInt8 := dkwX1_isShiftOn_0 ++ dktX1_isShiftOn_1
theorem dksX1_isShiftOn_0 : cX1_isShiftOn.data.toList.drop 0 = dktX1_isShiftOn_0 := by decide +kernel
theorem dksX1_isShiftOn_1 : cX1_isShiftOn.data.toList.drop 22 = dktX1_isShiftOn_1 := dk_seg dksX1_isShiftOn_0 22 rfl rfl
theorem dksX1_isShiftOn_2 : cX1_isShiftOn.data.toList.drop 44 = dktX1_isShiftOn_2 := dk_seg dksX1_isShiftOn_1 22 rfl rfl
theorem dX1_isShiftOn_0 : decode cX1_isShiftOn 0 = .ok (.aload_n 0, 1) := dk_42 (dk_at dksX1_isShiftOn_0 0 rfl rfl)
theorem dX1_isShiftOn_1 : decode cX1_isShiftOn 1 = .ok (.iload_n 1, 1) := dk_27 (dk_at dksX1_isShiftOn_0 1 rfl rfl)
theorem dX1_isShiftOn_2 : decode cX1_isShiftOn 2 = .ok (.invokevirtual 131, 3) := dk_182 0 131 (dk_at dksX1_isShiftOn_0 2 rfl rfl)
theorem dX1_isShiftOn_5 : decode cX1_isShiftOn 5 = .ok (.istore_n 2, 1) := dk_61 (dk_at dksX1_isShiftOn_0 5 rfl rfl)
theorem dX1_isShiftOn_6 : decode cX1_isShiftOn 6 = .ok (.iload_n 2, 1) := dk_28 (dk_at dksX1_isShiftOn_0 6 rfl rfl)
theorem dX1_isShiftOn_7 : decode cX1_isShiftOn 7 = .ok (.bipush (-5), 2) := dk_16 251 (dk_at dksX1_isShiftOn_0 7 rfl rfl)
theorem dX1_isShiftOn_9 : decode cX1_isShiftOn 9 = .ok (.if_icmp .eq 45, 3) := dk_159 0 45 (dk_at dksX1_isShiftOn_0 9 rfl rfl)
theorem dX1_isShiftOn_12 : decode cX1_isShiftOn 12 = .ok (.aload_n 0, 1) := dk_42 (dk_at dksX1_isShiftOn_0 12 rfl rfl)
theorem dX1_isShiftOn_13 : decode cX1_isShiftOn 13 = .ok (.getfield 12, 3) := dk_180 0 12 (dk_at dksX1_isShiftOn_0 13 rfl rfl)
theorem dX1_isShiftOn_16 : decode cX1_isShiftOn 16 = .ok (.iload_n 2, 1) := dk_28 (dk_at dksX1_isShiftOn_0 16 rfl rfl)
theorem dX1_isShiftOn_17 : decode cX1_isShiftOn 17 = .ok (.invokeinterface 78 2, 5) := by decide +kernel
theorem dX1_isShiftOn_22 : decode cX1_isShiftOn 22 = .ok (.checkcast 82, 3) := dk_192 0 82 (dk_at dksX1_isShiftOn_1 0 rfl rfl)
theorem dX1_isShiftOn_25 : decode cX1_isShiftOn 25 = .ok (.invokevirtual 134, 3) := dk_182 0 134 (dk_at dksX1_isShiftOn_1 3 rfl rfl)
theorem dX1_isShiftOn_28 : decode cX1_isShiftOn 28 = .ok (.ifCond .eq 26, 3) := dk_153 0 26 (dk_at dksX1_isShiftOn_1 6 rfl rfl)
theorem dX1_isShiftOn_31 : decode cX1_isShiftOn 31 = .ok (.aload_n 0, 1) := dk_42 (dk_at dksX1_isShiftOn_1 9 rfl rfl)
theorem dX1_isShiftOn_32 : decode cX1_isShiftOn 32 = .ok (.getfield 12, 3) := dk_180 0 12 (dk_at dksX1_isShiftOn_1 10 rfl rfl)
theorem dX1_isShiftOn_35 : decode cX1_isShiftOn 35 = .ok (.iload_n 2, 1) := dk_28 (dk_at dksX1_isShiftOn_1 13 rfl rfl)
theorem dX1_isShiftOn_36 : decode cX1_isShiftOn 36 = .ok (.invokeinterface 78 2, 5) := by decide +kernel
theorem dX1_isShiftOn_41 : decode cX1_isShiftOn 41 = .ok (.checkcast 82, 3) := dk_192 0 82 (dk_at dksX1_isShiftOn_1 19 rfl rfl)
theorem dX1_isShiftOn_44 : decode cX1_isShiftOn 44 = .ok (.getfield 138, 3) := dk_180 0 138 (dk_at dksX1_isShiftOn_2 0 rfl rfl)
theorem dX1_isShiftOn_47 : decode cX1_isShiftOn 47 = .ok (.ifCond .ne 7, 3) := dk_154 0 7 (dk_at dksX1_isShiftOn_2 3 rfl rfl)
theorem dX1_isShiftOn_50 : decode cX1_isShiftOn 50 = .ok (.iconst 1, 1) := dk_4 (dk_at dksX1_isShiftOn_2 6 rfl rfl)
theorem dX1_isShiftOn_51 : decode cX1_isShiftOn 51 = .ok (.goto 4, 3) := dk_167 0 4 (dk_at dksX1_isShiftOn_2 7 rfl rfl)
theorem dX1_isShiftOn_54 : decode cX1_isShiftOn 54 = .ok (.iconst 0, 1) := dk_3 (dk_at dksX1_isShiftOn_2 10 rfl rfl)
theorem dX1_isShiftOn_55 : decode cX1_isShiftOn 55 = .ok (.ireturn, 1) := dk_172 (dk_at dksX1_isShiftOn_2 11 rfl rfl)
abbrev cX1_settle : ByteArray := prog_6_method_17_code
def yX1_settle : MethodName := ⟨RX1, "settle", "(II)V"⟩
def dkwX1_settle_4 : List UInt8 := [167, 255, 196, 42, 45, 4, 182, 0, 197, 177]
abbrev dktX1_settle_4 : List UInt8 := dkwX1_settle_4 ++ []
def dkwX1_settle_3 : List UInt8 := [153, 0, 19, 42, 180, 0, 26, 180, 0, 242, 21, 4, 45, 185, 0, 238, 3, 0, 87, 132, 4, 1]
abbrev dktX1_settle_3 : List UInt8 := dkwX1_settle_3 ++ dktX1_settle_4
def dkwX1_settle_2 : List UInt8 := [162, 0, 49, 42, 180, 0, 26, 180, 0, 242, 21, 4, 185, 0, 78, 2, 0, 192, 0, 88, 45, 182, 0, 245]
abbrev dktX1_settle_2 : List UInt8 := dkwX1_settle_2 ++ dktX1_settle_3
def dkwX1_settle_1 : List UInt8 := [185, 0, 238, 3, 0, 87, 3, 54, 4, 21, 4, 42, 180, 0, 26, 180, 0, 242, 185, 0, 74, 1, 0]
abbrev dktX1_settle_1 : List UInt8 := dkwX1_settle_1 ++ dktX1_settle_2
def dkwX1_settle_0 : List UInt8 := [42, 180, 0, 18, 27, 185, 0, 78, 2, 0, 192, 0, 88, 28, 182, 0, 234, 78, 42, 180, 0, 18, 27, 45]
abbrev dktX1_settle_0 : List UInt8 := dkwX1_settle_0 ++ dktX1_settle_1
theorem dksX1_settle_0 : cX1_settle.data.toList.drop 0 = dktX1_settle_0 := by decide +kernel
theorem dksX1_settle_1 : cX1_settle.data.toList.drop 24 = dktX1_settle_1 := dk_seg dksX1_settle_0 24 rfl rfl
theorem dksX1_settle_2 : cX1_settle.data.toList.drop 47 = dktX1_settle_2 := dk_seg dksX1_settle_1 23 rfl rfl
theorem dksX1_settle_3 : cX1_settle.data.toList.drop 71 = dktX1_settle_3 := dk_seg dksX1_settle_2 24 rfl rfl
theorem dksX1_settle_4 : cX1_settle.data.toList.drop 93 = dktX1_settle_4 := dk_seg dksX1_settle_3 22 rfl rfl
theorem dX1_settle_0 : decode cX1_settle 0 = .ok (.aload_n 0, 1) := dk_42 (dk_at dksX1_settle_0 0 rfl rfl)
theorem dX1_settle_1 : decode cX1_settle 1 = .ok (.getfield 18, 3) := dk_180 0 18 (dk_at dksX1_settle_0 1 rfl rfl)
theorem dX1_settle_4 : decode cX1_settle 4 = .ok (.iload_n 1, 1) := dk_27 (dk_at dksX1_settle_0 4 rfl rfl)
theorem dX1_settle_5 : decode cX1_settle 5 = .ok (.invokeinterface 78 2, 5) := by decide +kernel
theorem dX1_settle_10 : decode cX1_settle 10 = .ok (.checkcast 88, 3) := dk_192 0 88 (dk_at dksX1_settle_0 10 rfl rfl)
theorem dX1_settle_13 : decode cX1_settle 13 = .ok (.iload_n 2, 1) := dk_28 (dk_at dksX1_settle_0 13 rfl rfl)
theorem dX1_settle_14 : decode cX1_settle 14 = .ok (.invokevirtual 234, 3) := dk_182 0 234 (dk_at dksX1_settle_0 14 rfl rfl)
theorem dX1_settle_17 : decode cX1_settle 17 = .ok (.astore_n 3, 1) := dk_78 (dk_at dksX1_settle_0 17 rfl rfl)
theorem dX1_settle_18 : decode cX1_settle 18 = .ok (.aload_n 0, 1) := dk_42 (dk_at dksX1_settle_0 18 rfl rfl)
theorem dX1_settle_19 : decode cX1_settle 19 = .ok (.getfield 18, 3) := dk_180 0 18 (dk_at dksX1_settle_0 19 rfl rfl)
theorem dX1_settle_22 : decode cX1_settle 22 = .ok (.iload_n 1, 1) := dk_27 (dk_at dksX1_settle_0 22 rfl rfl)
theorem dX1_settle_23 : decode cX1_settle 23 = .ok (.aload_n 3, 1) := dk_45 (dk_at dksX1_settle_0 23 rfl rfl)
theorem dX1_settle_24 : decode cX1_settle 24 = .ok (.invokeinterface 238 3, 5) := by decide +kernel
theorem dX1_settle_29 : decode cX1_settle 29 = .ok (.pop, 1) := dk_87 (dk_at dksX1_settle_1 5 rfl rfl)
theorem dX1_settle_30 : decode cX1_settle 30 = .ok (.iconst 0, 1) := dk_3 (dk_at dksX1_settle_1 6 rfl rfl)
theorem dX1_settle_31 : decode cX1_settle 31 = .ok (.istore 4, 2) := dk_54 4 (dk_at dksX1_settle_1 7 rfl rfl)
theorem dX1_settle_33 : decode cX1_settle 33 = .ok (.iload 4, 2) := dk_21 4 (dk_at dksX1_settle_1 9 rfl rfl)
theorem dX1_settle_35 : decode cX1_settle 35 = .ok (.aload_n 0, 1) := dk_42 (dk_at dksX1_settle_1 11 rfl rfl)
theorem dX1_settle_36 : decode cX1_settle 36 = .ok (.getfield 26, 3) := dk_180 0 26 (dk_at dksX1_settle_1 12 rfl rfl)
theorem dX1_settle_39 : decode cX1_settle 39 = .ok (.getfield 242, 3) := dk_180 0 242 (dk_at dksX1_settle_1 15 rfl rfl)
theorem dX1_settle_42 : decode cX1_settle 42 = .ok (.invokeinterface 74 1, 5) := by decide +kernel
theorem dX1_settle_47 : decode cX1_settle 47 = .ok (.if_icmp .ge 49, 3) := dk_162 0 49 (dk_at dksX1_settle_2 0 rfl rfl)
theorem dX1_settle_50 : decode cX1_settle 50 = .ok (.aload_n 0, 1) := dk_42 (dk_at dksX1_settle_2 3 rfl rfl)
theorem dX1_settle_51 : decode cX1_settle 51 = .ok (.getfield 26, 3) := dk_180 0 26 (dk_at dksX1_settle_2 4 rfl rfl)
theorem dX1_settle_54 : decode cX1_settle 54 = .ok (.getfield 242, 3) := dk_180 0 242 (dk_at dksX1_settle_2 7 rfl rfl)
theorem dX1_settle_57 : decode cX1_settle 57 = .ok (.iload 4, 2) := dk_21 4 (dk_at dksX1_settle_2 10 rfl rfl)
theorem dX1_settle_59 : decode cX1_settle 59 = .ok (.invokeinterface 78 2, 5) := by decide +kernel
theorem dX1_settle_64 : decode cX1_settle 64 = .ok (.checkcast 88, 3) := dk_192 0 88 (dk_at dksX1_settle_2 17 rfl rfl)
theorem dX1_settle_67 : decode cX1_settle 67 = .ok (.aload_n 3, 1) := dk_45 (dk_at dksX1_settle_2 20 rfl rfl)
theorem dX1_settle_68 : decode cX1_settle 68 = .ok (.invokevirtual 245, 3) := dk_182 0 245 (dk_at dksX1_settle_2 21 rfl rfl)
theorem dX1_settle_71 : decode cX1_settle 71 = .ok (.ifCond .eq 19, 3) := dk_153 0 19 (dk_at dksX1_settle_3 0 rfl rfl)
theorem dX1_settle_74 : decode cX1_settle 74 = .ok (.aload_n 0, 1) := dk_42 (dk_at dksX1_settle_3 3 rfl rfl)
theorem dX1_settle_75 : decode cX1_settle 75 = .ok (.getfield 26, 3) := dk_180 0 26 (dk_at dksX1_settle_3 4 rfl rfl)
theorem dX1_settle_78 : decode cX1_settle 78 = .ok (.getfield 242, 3) := dk_180 0 242 (dk_at dksX1_settle_3 7 rfl rfl)
theorem dX1_settle_81 : decode cX1_settle 81 = .ok (.iload 4, 2) := dk_21 4 (dk_at dksX1_settle_3 10 rfl rfl)
theorem dX1_settle_83 : decode cX1_settle 83 = .ok (.aload_n 3, 1) := dk_45 (dk_at dksX1_settle_3 12 rfl rfl)
theorem dX1_settle_84 : decode cX1_settle 84 = .ok (.invokeinterface 238 3, 5) := by decide +kernel
theorem dX1_settle_89 : decode cX1_settle 89 = .ok (.pop, 1) := dk_87 (dk_at dksX1_settle_3 18 rfl rfl)
theorem dX1_settle_90 : decode cX1_settle 90 = .ok (.iinc 4 1, 3) := dk_132 4 1 (dk_at dksX1_settle_3 19 rfl rfl)
theorem dX1_settle_93 : decode cX1_settle 93 = .ok (.goto (-60), 3) := dk_167 255 196 (dk_at dksX1_settle_4 0 rfl rfl)
theorem dX1_settle_96 : decode cX1_settle 96 = .ok (.aload_n 0, 1) := dk_42 (dk_at dksX1_settle_4 3 rfl rfl)
theorem dX1_settle_97 : decode cX1_settle 97 = .ok (.aload_n 3, 1) := dk_45 (dk_at dksX1_settle_4 4 rfl rfl)
theorem dX1_settle_98 : decode cX1_settle 98 = .ok (.iconst 1, 1) := dk_4 (dk_at dksX1_settle_4 5 rfl rfl)
theorem dX1_settle_99 : decode cX1_settle 99 = .ok (.invokevirtual 197, 3) := dk_182 0 197 (dk_at dksX1_settle_4 6 rfl rfl)
theorem dX1_settle_102 : decode cX1_settle 102 = .ok (.return_, 1) := dk_177 (dk_at dksX1_settle_4 9 rfl rfl)
abbrev cX1_isSensed : ByteArray := prog_6_method_9_code
def yX1_isSensed : MethodName := ⟨RX1, "isSensed", "(I)Z"⟩
def dkwX1_isSensed_1 : List UInt8 := [167, 0, 4, 3, 172]
abbrev dktX1_isSensed_1 : List UInt8 := dkwX1_isSensed_1 ++ []
def dkwX1_isSensed_0 : List UInt8 := [42, 27, 42, 180, 0, 106, 108, 182, 0, 145, 27, 42, 180, 0, 106, 112, 122, 4, 126, 4, 160, 0, 7, 4]
abbrev dktX1_isSensed_0 : List UInt8 := dkwX1_isSensed_0 ++ dktX1_isSensed_1
theorem dksX1_isSensed_0 : cX1_isSensed.data.toList.drop 0 = dktX1_isSensed_0 := by decide +kernel
theorem dksX1_isSensed_1 : cX1_isSensed.data.toList.drop 24 = dktX1_isSensed_1 := dk_seg dksX1_isSensed_0 24 rfl rfl
theorem dX1_isSensed_0 : decode cX1_isSensed 0 = .ok (.aload_n 0, 1) := dk_42 (dk_at dksX1_isSensed_0 0 rfl rfl)
theorem dX1_isSensed_1 : decode cX1_isSensed 1 = .ok (.iload_n 1, 1) := dk_27 (dk_at dksX1_isSensed_0 1 rfl rfl)
theorem dX1_isSensed_2 : decode cX1_isSensed 2 = .ok (.aload_n 0, 1) := dk_42 (dk_at dksX1_isSensed_0 2 rfl rfl)
theorem dX1_isSensed_3 : decode cX1_isSensed 3 = .ok (.getfield 106, 3) := dk_180 0 106 (dk_at dksX1_isSensed_0 3 rfl rfl)
theorem dX1_isSensed_6 : decode cX1_isSensed 6 = .ok (.idiv, 1) := dk_108 (dk_at dksX1_isSensed_0 6 rfl rfl)
theorem dX1_isSensed_7 : decode cX1_isSensed 7 = .ok (.invokevirtual 145, 3) := dk_182 0 145 (dk_at dksX1_isSensed_0 7 rfl rfl)
theorem dX1_isSensed_10 : decode cX1_isSensed 10 = .ok (.iload_n 1, 1) := dk_27 (dk_at dksX1_isSensed_0 10 rfl rfl)
theorem dX1_isSensed_11 : decode cX1_isSensed 11 = .ok (.aload_n 0, 1) := dk_42 (dk_at dksX1_isSensed_0 11 rfl rfl)
theorem dX1_isSensed_12 : decode cX1_isSensed 12 = .ok (.getfield 106, 3) := dk_180 0 106 (dk_at dksX1_isSensed_0 12 rfl rfl)
theorem dX1_isSensed_15 : decode cX1_isSensed 15 = .ok (.irem, 1) := dk_112 (dk_at dksX1_isSensed_0 15 rfl rfl)
theorem dX1_isSensed_16 : decode cX1_isSensed 16 = .ok (.ishr, 1) := dk_122 (dk_at dksX1_isSensed_0 16 rfl rfl)
theorem dX1_isSensed_17 : decode cX1_isSensed 17 = .ok (.iconst 1, 1) := dk_4 (dk_at dksX1_isSensed_0 17 rfl rfl)
theorem dX1_isSensed_18 : decode cX1_isSensed 18 = .ok (.iand, 1) := dk_126 (dk_at dksX1_isSensed_0 18 rfl rfl)
theorem dX1_isSensed_19 : decode cX1_isSensed 19 = .ok (.iconst 1, 1) := dk_4 (dk_at dksX1_isSensed_0 19 rfl rfl)
theorem dX1_isSensed_20 : decode cX1_isSensed 20 = .ok (.if_icmp .ne 7, 3) := dk_160 0 7 (dk_at dksX1_isSensed_0 20 rfl rfl)
theorem dX1_isSensed_23 : decode cX1_isSensed 23 = .ok (.iconst 1, 1) := dk_4 (dk_at dksX1_isSensed_0 23 rfl rfl)
theorem dX1_isSensed_24 : decode cX1_isSensed 24 = .ok (.goto 4, 3) := dk_167 0 4 (dk_at dksX1_isSensed_1 0 rfl rfl)
theorem dX1_isSensed_27 : decode cX1_isSensed 27 = .ok (.iconst 0, 1) := dk_3 (dk_at dksX1_isSensed_1 3 rfl rfl)
theorem dX1_isSensed_28 : decode cX1_isSensed 28 = .ok (.ireturn, 1) := dk_172 (dk_at dksX1_isSensed_1 4 rfl rfl)
abbrev cX1_openDisputes : ByteArray := prog_6_method_20_code
def yX1_openDisputes : MethodName := ⟨RX1, "openDisputes", "()I"⟩
def dkwX1_openDisputes_2 : List UInt8 := [132, 2, 1, 167, 255, 212, 27, 172]
abbrev dktX1_openDisputes_2 : List UInt8 := dkwX1_openDisputes_2 ++ []
def dkwX1_openDisputes_1 : List UInt8 := [185, 0, 78, 2, 0, 192, 0, 88, 180, 0, 194, 6, 160, 0, 7, 4, 167, 0, 4, 3, 96, 60]
abbrev dktX1_openDisputes_1 : List UInt8 := dkwX1_openDisputes_1 ++ dktX1_openDisputes_2
def dkwX1_openDisputes_0 : List UInt8 := [3, 60, 3, 61, 28, 42, 180, 0, 18, 185, 0, 74, 1, 0, 162, 0, 37, 27, 42, 180, 0, 18, 28]
abbrev dktX1_openDisputes_0 : List UInt8 := dkwX1_openDisputes_0 ++ dktX1_openDisputes_1
theorem dksX1_openDisputes_0 : cX1_openDisputes.data.toList.drop 0 = dktX1_openDisputes_0 := by decide +kernel
theorem dksX1_openDisputes_1 : cX1_openDisputes.data.toList.drop 23 = dktX1_openDisputes_1 := dk_seg dksX1_openDisputes_0 23 rfl rfl
theorem dksX1_openDisputes_2 : cX1_openDisputes.data.toList.drop 45 = dktX1_openDisputes_2 := dk_seg dksX1_openDisputes_1 22 rfl rfl
theorem dX1_openDisputes_0 : decode cX1_openDisputes 0 = .ok (.iconst 0, 1) := dk_3 (dk_at dksX1_openDisputes_0 0 rfl rfl)
theorem dX1_openDisputes_1 : decode cX1_openDisputes 1 = .ok (.istore_n 1, 1) := dk_60 (dk_at dksX1_openDisputes_0 1 rfl rfl)
theorem dX1_openDisputes_2 : decode cX1_openDisputes 2 = .ok (.iconst 0, 1) := dk_3 (dk_at dksX1_openDisputes_0 2 rfl rfl)
theorem dX1_openDisputes_3 : decode cX1_openDisputes 3 = .ok (.istore_n 2, 1) := dk_61 (dk_at dksX1_openDisputes_0 3 rfl rfl)
theorem dX1_openDisputes_4 : decode cX1_openDisputes 4 = .ok (.iload_n 2, 1) := dk_28 (dk_at dksX1_openDisputes_0 4 rfl rfl)
theorem dX1_openDisputes_5 : decode cX1_openDisputes 5 = .ok (.aload_n 0, 1) := dk_42 (dk_at dksX1_openDisputes_0 5 rfl rfl)
theorem dX1_openDisputes_6 : decode cX1_openDisputes 6 = .ok (.getfield 18, 3) := dk_180 0 18 (dk_at dksX1_openDisputes_0 6 rfl rfl)
theorem dX1_openDisputes_9 : decode cX1_openDisputes 9 = .ok (.invokeinterface 74 1, 5) := by decide +kernel
theorem dX1_openDisputes_14 : decode cX1_openDisputes 14 = .ok (.if_icmp .ge 37, 3) := dk_162 0 37 (dk_at dksX1_openDisputes_0 14 rfl rfl)
theorem dX1_openDisputes_17 : decode cX1_openDisputes 17 = .ok (.iload_n 1, 1) := dk_27 (dk_at dksX1_openDisputes_0 17 rfl rfl)
theorem dX1_openDisputes_18 : decode cX1_openDisputes 18 = .ok (.aload_n 0, 1) := dk_42 (dk_at dksX1_openDisputes_0 18 rfl rfl)
theorem dX1_openDisputes_19 : decode cX1_openDisputes 19 = .ok (.getfield 18, 3) := dk_180 0 18 (dk_at dksX1_openDisputes_0 19 rfl rfl)
theorem dX1_openDisputes_22 : decode cX1_openDisputes 22 = .ok (.iload_n 2, 1) := dk_28 (dk_at dksX1_openDisputes_0 22 rfl rfl)
theorem dX1_openDisputes_23 : decode cX1_openDisputes 23 = .ok (.invokeinterface 78 2, 5) := by decide +kernel
theorem dX1_openDisputes_28 : decode cX1_openDisputes 28 = .ok (.checkcast 88, 3) := dk_192 0 88 (dk_at dksX1_openDisputes_1 5 rfl rfl)
theorem dX1_openDisputes_31 : decode cX1_openDisputes 31 = .ok (.getfield 194, 3) := dk_180 0 194 (dk_at dksX1_openDisputes_1 8 rfl rfl)
theorem dX1_openDisputes_34 : decode cX1_openDisputes 34 = .ok (.iconst 3, 1) := dk_6 (dk_at dksX1_openDisputes_1 11 rfl rfl)
theorem dX1_openDisputes_35 : decode cX1_openDisputes 35 = .ok (.if_icmp .ne 7, 3) := dk_160 0 7 (dk_at dksX1_openDisputes_1 12 rfl rfl)
theorem dX1_openDisputes_38 : decode cX1_openDisputes 38 = .ok (.iconst 1, 1) := dk_4 (dk_at dksX1_openDisputes_1 15 rfl rfl)
theorem dX1_openDisputes_39 : decode cX1_openDisputes 39 = .ok (.goto 4, 3) := dk_167 0 4 (dk_at dksX1_openDisputes_1 16 rfl rfl)
theorem dX1_openDisputes_42 : decode cX1_openDisputes 42 = .ok (.iconst 0, 1) := dk_3 (dk_at dksX1_openDisputes_1 19 rfl rfl)
theorem dX1_openDisputes_43 : decode cX1_openDisputes 43 = .ok (.iadd, 1) := dk_96 (dk_at dksX1_openDisputes_1 20 rfl rfl)
theorem dX1_openDisputes_44 : decode cX1_openDisputes 44 = .ok (.istore_n 1, 1) := dk_60 (dk_at dksX1_openDisputes_1 21 rfl rfl)
theorem dX1_openDisputes_45 : decode cX1_openDisputes 45 = .ok (.iinc 2 1, 3) := dk_132 2 1 (dk_at dksX1_openDisputes_2 0 rfl rfl)
theorem dX1_openDisputes_48 : decode cX1_openDisputes 48 = .ok (.goto (-44), 3) := dk_167 255 212 (dk_at dksX1_openDisputes_2 3 rfl rfl)
theorem dX1_openDisputes_51 : decode cX1_openDisputes 51 = .ok (.iload_n 1, 1) := dk_27 (dk_at dksX1_openDisputes_2 6 rfl rfl)
theorem dX1_openDisputes_52 : decode cX1_openDisputes 52 = .ok (.ireturn, 1) := dk_172 (dk_at dksX1_openDisputes_2 7 rfl rfl)
theorem q58 : (Jvm.Cond.initialized "BlanketKeys$State") ∈ lw_all := lw_g (lw_at lw_m1 2 rfl) rfl
theorem q97 : (Jvm.Cond.instantiable "BlanketKeys$State" (16 : Nat)) ∈ lw_all := lw_g (lw_at lw_m1 41 rfl) rfl
theorem q99 : (Jvm.Cond.instanceMethod ({ cls := "BlanketKeys$State", name := "<init>", desc := "()V" } : Jvm.MethodName)) ∈ lw_all := lw_g (lw_at lw_m1 43 rfl) rfl
theorem q100 : (Jvm.Cond.code ({ cls := "BlanketKeys$State", name := "<init>", desc := "()V" } : Jvm.MethodName) prog_6_method_1_code (2 : Nat) (Option.none : Option Jvm.ClassFile.FieldType)) ∈ lw_all := lw_g (lw_at lw_m1 44 rfl) rfl
theorem q101 : (Jvm.Cond.methodLink "BlanketKeys$State" (3 : Nat) ({ cls := "java/lang/Object", name := "<init>", desc := "()V" } : Jvm.MethodName)) ∈ lw_all := lw_g (lw_at lw_m1 45 rfl) rfl
theorem q102 : (Jvm.Cond.classLink "BlanketKeys$State" (9 : Nat) "java/util/ArrayList") ∈ lw_all := lw_g (lw_at lw_m1 46 rfl) rfl
theorem q104 : (Jvm.Cond.methodLink "BlanketKeys$State" (11 : Nat) ({ cls := "java/util/ArrayList", name := "<init>", desc := "()V" } : Jvm.MethodName)) ∈ lw_all := lw_g (lw_at lw_m1 48 rfl) rfl
theorem q128 : (Jvm.Cond.classLink "BlanketKeys$State" (21 : Nat) "BlanketKeys$Latest") ∈ lw_all := lw_g (lw_at lw_m1 72 rfl) rfl
theorem q130 : (Jvm.Cond.methodLink "BlanketKeys$State" (23 : Nat) ({ cls := "BlanketKeys$Latest", name := "<init>", desc := "(I)V" } : Jvm.MethodName)) ∈ lw_all := lw_g (lw_at lw_m1 74 rfl) rfl
theorem q138 : (Jvm.Cond.fieldLinkNest "BlanketKeys$State" (242 : Nat) "BlanketKeys$Latest" "items" "Ljava/util/List;" "BlanketKeys") ∈ lw_tbl := lw_at lw_m1 82 rfl
theorem q144 : (Jvm.Cond.classLink "BlanketKeys$State" (47 : Nat) "BlanketKeys$Style") ∈ lw_all := lw_g (lw_at lw_m1 88 rfl) rfl
theorem q147 : (Jvm.Cond.constantFloat "BlanketKeys$State" (49 : Nat) (1082130432 : UInt32)) ∈ lw_all := lw_g (lw_at lw_m1 91 rfl) rfl
theorem q148 : (Jvm.Cond.constantFloat "BlanketKeys$State" (50 : Nat) (1086324736 : UInt32)) ∈ lw_all := lw_g (lw_at lw_m1 92 rfl) rfl
theorem q149 : (Jvm.Cond.methodLink "BlanketKeys$State" (51 : Nat) ({ cls := "BlanketKeys$Style", name := "<init>", desc := "(FF)V" } : Jvm.MethodName)) ∈ lw_all := lw_g (lw_at lw_m1 93 rfl) rfl
theorem q168 : (Jvm.Cond.constantFloat "BlanketKeys$State" (54 : Nat) (1090519040 : UInt32)) ∈ lw_all := lw_g (lw_at lw_m1 112 rfl) rfl
theorem q169 : (Jvm.Cond.constantFloat "BlanketKeys$State" (55 : Nat) (1092616192 : UInt32)) ∈ lw_all := lw_g (lw_at lw_m1 113 rfl) rfl
theorem q170 : (Jvm.Cond.constantFloat "BlanketKeys$State" (60 : Nat) (1040187392 : UInt32)) ∈ lw_all := lw_g (lw_at lw_m1 114 rfl) rfl
theorem q171 : (Jvm.Cond.constantFloat "BlanketKeys$State" (61 : Nat) (1056964608 : UInt32)) ∈ lw_all := lw_g (lw_at lw_m1 115 rfl) rfl
theorem q172 : (Jvm.Cond.constantFloat "BlanketKeys$State" (62 : Nat) (1048576000 : UInt32)) ∈ lw_all := lw_g (lw_at lw_m1 116 rfl) rfl
theorem q173 : (Jvm.Cond.interfaceEntry "BlanketKeys$State" (67 : Nat)) ∈ lw_tbl := lw_at lw_m1 117 rfl
theorem q174 : (Jvm.Cond.methodLink "BlanketKeys$State" (67 : Nat) ({ cls := "java/util/List", name := "add", desc := "(Ljava/lang/Object;)Z" } : Jvm.MethodName)) ∈ lw_all := lw_g (lw_at lw_m1 118 rfl) rfl
theorem q216 : (Jvm.Cond.selects "BlanketKeys$State" ({ cls := "java/lang/Object", name := "getClass", desc := "()Ljava/lang/Class;" } : Jvm.MethodName) ({ cls := "java/lang/Object", name := "getClass", desc := "()Ljava/lang/Class;" } : Jvm.MethodName)) ∈ lw_all := lw_g (lw_at lw_m1 160 rfl) rfl
theorem q239 : (Jvm.Cond.fieldLink "BlanketKeys$State" (12 : Nat) "BlanketKeys$State" "keys" "Ljava/util/List;") ∈ lw_all := lw_g (lw_at lw_m1 183 rfl) rfl
theorem q241 : (Jvm.Cond.fieldLink "BlanketKeys$State" (18 : Nat) "BlanketKeys$State" "disputes" "Ljava/util/List;") ∈ lw_all := lw_g (lw_at lw_m1 185 rfl) rfl
theorem q243 : (Jvm.Cond.fieldLink "BlanketKeys$State" (26 : Nat) "BlanketKeys$State" "strokes" "LBlanketKeys$Latest;") ∈ lw_all := lw_g (lw_at lw_m1 187 rfl) rfl
theorem q245 : (Jvm.Cond.fieldLink "BlanketKeys$State" (30 : Nat) "BlanketKeys$State" "typed" "Ljava/util/List;") ∈ lw_all := lw_g (lw_at lw_m1 189 rfl) rfl
theorem q247 : (Jvm.Cond.fieldLink "BlanketKeys$State" (33 : Nat) "BlanketKeys$State" "signs" "[I") ∈ lw_all := lw_g (lw_at lw_m1 191 rfl) rfl
theorem q249 : (Jvm.Cond.fieldLink "BlanketKeys$State" (37 : Nat) "BlanketKeys$State" "credited" "[I") ∈ lw_all := lw_g (lw_at lw_m1 193 rfl) rfl
theorem q251 : (Jvm.Cond.fieldLink "BlanketKeys$State" (40 : Nat) "BlanketKeys$State" "rightly" "[I") ∈ lw_all := lw_g (lw_at lw_m1 195 rfl) rfl
theorem q253 : (Jvm.Cond.fieldLink "BlanketKeys$State" (43 : Nat) "BlanketKeys$State" "borrows" "[Z") ∈ lw_all := lw_g (lw_at lw_m1 197 rfl) rfl
theorem q255 : (Jvm.Cond.fieldLink "BlanketKeys$State" (56 : Nat) "BlanketKeys$State" "styles" "[LBlanketKeys$Style;") ∈ lw_all := lw_g (lw_at lw_m1 199 rfl) rfl
theorem q257 : (Jvm.Cond.fieldLink "BlanketKeys$State" (63 : Nat) "BlanketKeys$State" "settings" "[F") ∈ lw_all := lw_g (lw_at lw_m1 201 rfl) rfl
theorem q259 : (Jvm.Cond.fieldLink "BlanketKeys$State" (102 : Nat) "BlanketKeys$State" "rows" "I") ∈ lw_all := lw_g (lw_at lw_m1 203 rfl) rfl
theorem q261 : (Jvm.Cond.fieldLink "BlanketKeys$State" (106 : Nat) "BlanketKeys$State" "columns" "I") ∈ lw_all := lw_g (lw_at lw_m1 205 rfl) rfl
theorem q263 : (Jvm.Cond.fieldLink "BlanketKeys$State" (109 : Nat) "BlanketKeys$State" "tick" "I") ∈ lw_all := lw_g (lw_at lw_m1 207 rfl) rfl
theorem q265 : (Jvm.Cond.fieldLink "BlanketKeys$State" (112 : Nat) "BlanketKeys$State" "ended" "I") ∈ lw_all := lw_g (lw_at lw_m1 209 rfl) rfl
theorem q267 : (Jvm.Cond.fieldLink "BlanketKeys$State" (115 : Nat) "BlanketKeys$State" "ghosts" "I") ∈ lw_all := lw_g (lw_at lw_m1 211 rfl) rfl
theorem q269 : (Jvm.Cond.fieldLink "BlanketKeys$State" (118 : Nat) "BlanketKeys$State" "trueGhosts" "I") ∈ lw_all := lw_g (lw_at lw_m1 213 rfl) rfl
theorem q271 : (Jvm.Cond.laysFinal "BlanketKeys$State" "BlanketKeys$State" "keys" "Ljava/util/List;") ∈ lw_all := lw_g (lw_at lw_m1 215 rfl) rfl
theorem q272 : (Jvm.Cond.soleField "BlanketKeys$State" "keys") ∈ lw_all := lw_g (lw_at lw_m1 216 rfl) rfl
theorem q273 : (Jvm.Cond.laysFinal "BlanketKeys$State" "BlanketKeys$State" "disputes" "Ljava/util/List;") ∈ lw_all := lw_g (lw_at lw_m1 217 rfl) rfl
theorem q274 : (Jvm.Cond.soleField "BlanketKeys$State" "disputes") ∈ lw_all := lw_g (lw_at lw_m1 218 rfl) rfl
theorem q275 : (Jvm.Cond.laysFinal "BlanketKeys$State" "BlanketKeys$State" "strokes" "LBlanketKeys$Latest;") ∈ lw_all := lw_g (lw_at lw_m1 219 rfl) rfl
theorem q276 : (Jvm.Cond.soleField "BlanketKeys$State" "strokes") ∈ lw_all := lw_g (lw_at lw_m1 220 rfl) rfl
theorem q277 : (Jvm.Cond.laysFinal "BlanketKeys$State" "BlanketKeys$State" "typed" "Ljava/util/List;") ∈ lw_all := lw_g (lw_at lw_m1 221 rfl) rfl
theorem q278 : (Jvm.Cond.soleField "BlanketKeys$State" "typed") ∈ lw_all := lw_g (lw_at lw_m1 222 rfl) rfl
theorem q279 : (Jvm.Cond.laysFinal "BlanketKeys$State" "BlanketKeys$State" "signs" "[I") ∈ lw_all := lw_g (lw_at lw_m1 223 rfl) rfl
theorem q280 : (Jvm.Cond.soleField "BlanketKeys$State" "signs") ∈ lw_all := lw_g (lw_at lw_m1 224 rfl) rfl
theorem q281 : (Jvm.Cond.laysFinal "BlanketKeys$State" "BlanketKeys$State" "credited" "[I") ∈ lw_all := lw_g (lw_at lw_m1 225 rfl) rfl
theorem q282 : (Jvm.Cond.soleField "BlanketKeys$State" "credited") ∈ lw_all := lw_g (lw_at lw_m1 226 rfl) rfl
theorem q283 : (Jvm.Cond.laysFinal "BlanketKeys$State" "BlanketKeys$State" "rightly" "[I") ∈ lw_all := lw_g (lw_at lw_m1 227 rfl) rfl
theorem q284 : (Jvm.Cond.soleField "BlanketKeys$State" "rightly") ∈ lw_all := lw_g (lw_at lw_m1 228 rfl) rfl
theorem q285 : (Jvm.Cond.laysFinal "BlanketKeys$State" "BlanketKeys$State" "borrows" "[Z") ∈ lw_all := lw_g (lw_at lw_m1 229 rfl) rfl
theorem q286 : (Jvm.Cond.soleField "BlanketKeys$State" "borrows") ∈ lw_all := lw_g (lw_at lw_m1 230 rfl) rfl
theorem q287 : (Jvm.Cond.laysFinal "BlanketKeys$State" "BlanketKeys$State" "styles" "[LBlanketKeys$Style;") ∈ lw_all := lw_g (lw_at lw_m1 231 rfl) rfl
theorem q288 : (Jvm.Cond.soleField "BlanketKeys$State" "styles") ∈ lw_all := lw_g (lw_at lw_m1 232 rfl) rfl
theorem q289 : (Jvm.Cond.lays "BlanketKeys$State" "BlanketKeys$State" "settings" "[F") ∈ lw_all := lw_g (lw_at lw_m1 233 rfl) rfl
theorem q290 : (Jvm.Cond.soleField "BlanketKeys$State" "settings") ∈ lw_all := lw_g (lw_at lw_m1 234 rfl) rfl
theorem q291 : (Jvm.Cond.lays "BlanketKeys$State" "BlanketKeys$State" "rows" "I") ∈ lw_all := lw_g (lw_at lw_m1 235 rfl) rfl
theorem q292 : (Jvm.Cond.soleField "BlanketKeys$State" "rows") ∈ lw_all := lw_g (lw_at lw_m1 236 rfl) rfl
theorem q293 : (Jvm.Cond.lays "BlanketKeys$State" "BlanketKeys$State" "columns" "I") ∈ lw_all := lw_g (lw_at lw_m1 237 rfl) rfl
theorem q294 : (Jvm.Cond.soleField "BlanketKeys$State" "columns") ∈ lw_all := lw_g (lw_at lw_m1 238 rfl) rfl
theorem q295 : (Jvm.Cond.lays "BlanketKeys$State" "BlanketKeys$State" "tick" "I") ∈ lw_all := lw_g (lw_at lw_m1 239 rfl) rfl
theorem q296 : (Jvm.Cond.soleField "BlanketKeys$State" "tick") ∈ lw_all := lw_g (lw_at lw_m2 0 rfl) rfl
theorem q297 : (Jvm.Cond.lays "BlanketKeys$State" "BlanketKeys$State" "ended" "I") ∈ lw_all := lw_g (lw_at lw_m2 1 rfl) rfl
theorem q298 : (Jvm.Cond.soleField "BlanketKeys$State" "ended") ∈ lw_all := lw_g (lw_at lw_m2 2 rfl) rfl
theorem q299 : (Jvm.Cond.lays "BlanketKeys$State" "BlanketKeys$State" "ghosts" "I") ∈ lw_all := lw_g (lw_at lw_m2 3 rfl) rfl
theorem q300 : (Jvm.Cond.soleField "BlanketKeys$State" "ghosts") ∈ lw_all := lw_g (lw_at lw_m2 4 rfl) rfl
theorem q301 : (Jvm.Cond.lays "BlanketKeys$State" "BlanketKeys$State" "trueGhosts" "I") ∈ lw_all := lw_g (lw_at lw_m2 5 rfl) rfl
theorem q302 : (Jvm.Cond.soleField "BlanketKeys$State" "trueGhosts") ∈ lw_all := lw_g (lw_at lw_m2 6 rfl) rfl
theorem q303 : (Jvm.Cond.superclass "BlanketKeys$State" "java/lang/Object") ∈ lw_all := lw_g (lw_at lw_m2 7 rfl) rfl
theorem q340 : (Jvm.Cond.instanceMethod ({ cls := "BlanketKeys$State", name := "lay", desc := "(II)V" } : Jvm.MethodName)) ∈ lw_all := lw_g (lw_at lw_m2 44 rfl) rfl
theorem q341 : (Jvm.Cond.selects "BlanketKeys$State" ({ cls := "BlanketKeys$State", name := "lay", desc := "(II)V" } : Jvm.MethodName) ({ cls := "BlanketKeys$State", name := "lay", desc := "(II)V" } : Jvm.MethodName)) ∈ lw_all := lw_g (lw_at lw_m2 45 rfl) rfl
theorem q342 : (Jvm.Cond.code ({ cls := "BlanketKeys$State", name := "lay", desc := "(II)V" } : Jvm.MethodName) prog_6_method_3_code (4 : Nat) (Option.none : Option Jvm.ClassFile.FieldType)) ∈ lw_all := lw_g (lw_at lw_m2 46 rfl) rfl
theorem q343 : (Jvm.Cond.interfaceEntry "BlanketKeys$State" (121 : Nat)) ∈ lw_tbl := lw_at lw_m2 47 rfl
theorem q344 : (Jvm.Cond.methodLink "BlanketKeys$State" (121 : Nat) ({ cls := "java/util/List", name := "clear", desc := "()V" } : Jvm.MethodName)) ∈ lw_all := lw_g (lw_at lw_m2 48 rfl) rfl
theorem q352 : (Jvm.Cond.classLink "BlanketKeys$State" (82 : Nat) "BlanketKeys$Key") ∈ lw_all := lw_g (lw_at lw_m2 56 rfl) rfl
theorem q354 : (Jvm.Cond.methodLinkNest "BlanketKeys$State" (124 : Nat) ({ cls := "BlanketKeys$Key", name := "<init>", desc := "()V" } : Jvm.MethodName) "BlanketKeys") ∈ lw_tbl := lw_at lw_m2 58 rfl
theorem q360 : (Jvm.Cond.fieldLinkNest "BlanketKeys$State" (219 : Nat) "BlanketKeys$Key" "sign" "C" "BlanketKeys") ∈ lw_tbl := lw_at lw_m2 64 rfl
theorem q362 : (Jvm.Cond.fieldLinkNest "BlanketKeys$State" (128 : Nat) "BlanketKeys$Key" "shiftOf" "I" "BlanketKeys") ∈ lw_tbl := lw_at lw_m2 66 rfl
theorem q365 : (Jvm.Cond.fieldLinkNest "BlanketKeys$State" (125 : Nat) "BlanketKeys$Key" "holder" "I" "BlanketKeys") ∈ lw_tbl := lw_at lw_m2 69 rfl
theorem q368 : (Jvm.Cond.fieldLinkNest "BlanketKeys$State" (155 : Nat) "BlanketKeys$Key" "since" "I" "BlanketKeys") ∈ lw_tbl := lw_at lw_m2 72 rfl
theorem q371 : (Jvm.Cond.fieldLinkNest "BlanketKeys$State" (138 : Nat) "BlanketKeys$Key" "isDoubtful" "Z" "BlanketKeys") ∈ lw_tbl := lw_at lw_m2 75 rfl
theorem q374 : (Jvm.Cond.fieldLinkNest "BlanketKeys$State" (166 : Nat) "BlanketKeys$Key" "shifts" "I" "BlanketKeys") ∈ lw_tbl := lw_at lw_m2 78 rfl
theorem q376 : (Jvm.Cond.fieldLinkNest "BlanketKeys$State" (169 : Nat) "BlanketKeys$Key" "trueHolder" "I" "BlanketKeys") ∈ lw_tbl := lw_at lw_m2 80 rfl
theorem q450 : (Jvm.Cond.instanceMethod ({ cls := "BlanketKeys$State", name := "copy", desc := "()LBlanketKeys$State;" } : Jvm.MethodName)) ∈ lw_all := lw_g (lw_at lw_m2 154 rfl) rfl
theorem q451 : (Jvm.Cond.selects "BlanketKeys$State" ({ cls := "BlanketKeys$State", name := "copy", desc := "()LBlanketKeys$State;" } : Jvm.MethodName) ({ cls := "BlanketKeys$State", name := "copy", desc := "()LBlanketKeys$State;" } : Jvm.MethodName)) ∈ lw_all := lw_g (lw_at lw_m2 155 rfl) rfl
theorem q452 : (Jvm.Cond.code ({ cls := "BlanketKeys$State", name := "copy", desc := "()LBlanketKeys$State;" } : Jvm.MethodName) prog_6_method_2_code (3 : Nat) (Option.some (Jvm.ClassFile.FieldType.object "BlanketKeys$State"))) ∈ lw_all := lw_g (lw_at lw_m2 156 rfl) rfl
theorem q453 : (Jvm.Cond.classLink "BlanketKeys$State" (13 : Nat) "BlanketKeys$State") ∈ lw_all := lw_g (lw_at lw_m2 157 rfl) rfl
theorem q454 : (Jvm.Cond.methodLink "BlanketKeys$State" (73 : Nat) ({ cls := "BlanketKeys$State", name := "<init>", desc := "()V" } : Jvm.MethodName)) ∈ lw_all := lw_g (lw_at lw_m2 158 rfl) rfl
theorem q455 : (Jvm.Cond.interfaceEntry "BlanketKeys$State" (74 : Nat)) ∈ lw_tbl := lw_at lw_m2 159 rfl
theorem q456 : (Jvm.Cond.methodLink "BlanketKeys$State" (74 : Nat) ({ cls := "java/util/List", name := "size", desc := "()I" } : Jvm.MethodName)) ∈ lw_all := lw_g (lw_at lw_m2 160 rfl) rfl
theorem q457 : (Jvm.Cond.interfaceEntry "BlanketKeys$State" (78 : Nat)) ∈ lw_tbl := lw_at lw_m2 161 rfl
theorem q458 : (Jvm.Cond.methodLink "BlanketKeys$State" (78 : Nat) ({ cls := "java/util/List", name := "get", desc := "(I)Ljava/lang/Object;" } : Jvm.MethodName)) ∈ lw_all := lw_g (lw_at lw_m2 162 rfl) rfl
theorem q459 : (Jvm.Cond.methodLink "BlanketKeys$State" (84 : Nat) ({ cls := "BlanketKeys$Key", name := "copy", desc := "()LBlanketKeys$Key;" } : Jvm.MethodName)) ∈ lw_all := lw_g (lw_at lw_m2 163 rfl) rfl
theorem q465 : (Jvm.Cond.classLink "BlanketKeys$State" (88 : Nat) "BlanketKeys$Stroke") ∈ lw_all := lw_g (lw_at lw_m2 169 rfl) rfl
theorem q466 : (Jvm.Cond.methodLink "BlanketKeys$State" (90 : Nat) ({ cls := "BlanketKeys$Latest", name := "putAll", desc := "(LBlanketKeys$Latest;)V" } : Jvm.MethodName)) ∈ lw_all := lw_g (lw_at lw_m2 170 rfl) rfl
theorem q494 : (Jvm.Cond.methodLink "BlanketKeys$State" (94 : Nat) ({ cls := "BlanketKeys$Style", name := "copy", desc := "()LBlanketKeys$Style;" } : Jvm.MethodName)) ∈ lw_all := lw_g (lw_at lw_m2 198 rfl) rfl
theorem q500 : (Jvm.Cond.methodLink "BlanketKeys$State" (97 : Nat) ({ cls := "[F", name := "clone", desc := "()Ljava/lang/Object;" } : Jvm.MethodName)) ∈ lw_all := lw_g (lw_at lw_m2 204 rfl) rfl
theorem q506 : (Jvm.Cond.classLink "BlanketKeys$State" (98 : Nat) "[F") ∈ lw_all := lw_g (lw_at lw_m2 210 rfl) rfl
theorem q534 : (Jvm.Cond.instanceMethod ({ cls := "BlanketKeys$State", name := "shiftOf", desc := "(I)I" } : Jvm.MethodName)) ∈ lw_all := lw_g (lw_at lw_m2 238 rfl) rfl
theorem q535 : (Jvm.Cond.selects "BlanketKeys$State" ({ cls := "BlanketKeys$State", name := "shiftOf", desc := "(I)I" } : Jvm.MethodName) ({ cls := "BlanketKeys$State", name := "shiftOf", desc := "(I)I" } : Jvm.MethodName)) ∈ lw_all := lw_g (lw_at lw_m2 239 rfl) rfl
theorem q536 : (Jvm.Cond.code ({ cls := "BlanketKeys$State", name := "shiftOf", desc := "(I)I" } : Jvm.MethodName) prog_6_method_6_code (3 : Nat) (Option.some Jvm.ClassFile.FieldType.int)) ∈ lw_all := lw_g (lw_at lw_m3 0 rfl) rfl
theorem q561 : (Jvm.Cond.instanceMethod ({ cls := "BlanketKeys$State", name := "press", desc := "(II)I" } : Jvm.MethodName)) ∈ lw_all := lw_g (lw_at lw_m3 25 rfl) rfl
theorem q562 : (Jvm.Cond.selects "BlanketKeys$State" ({ cls := "BlanketKeys$State", name := "press", desc := "(II)I" } : Jvm.MethodName) ({ cls := "BlanketKeys$State", name := "press", desc := "(II)I" } : Jvm.MethodName)) ∈ lw_all := lw_g (lw_at lw_m3 26 rfl) rfl
theorem q563 : (Jvm.Cond.code ({ cls := "BlanketKeys$State", name := "press", desc := "(II)I" } : Jvm.MethodName) prog_6_method_18_code (3 : Nat) (Option.some Jvm.ClassFile.FieldType.int)) ∈ lw_all := lw_g (lw_at lw_m3 27 rfl) rfl
theorem q564 : (Jvm.Cond.methodLinkNest "BlanketKeys$State" (249 : Nat) ({ cls := "BlanketKeys", name := "isTypist", desc := "(I)Z" } : Jvm.MethodName) "BlanketKeys") ∈ lw_tbl := lw_at lw_m3 28 rfl
theorem q565 : (Jvm.Cond.methodLinkNest "BlanketKeys$State" (252 : Nat) ({ cls := "BlanketKeys", name := "inRange", desc := "(III)Z" } : Jvm.MethodName) "BlanketKeys") ∈ lw_tbl := lw_at lw_m3 29 rfl
theorem q566 : (Jvm.Cond.methodLink "BlanketKeys$State" (142 : Nat) ({ cls := "BlanketKeys$Key", name := "isDown", desc := "()Z" } : Jvm.MethodName)) ∈ lw_all := lw_g (lw_at lw_m3 30 rfl) rfl
theorem q567 : (Jvm.Cond.methodLink "BlanketKeys$State" (256 : Nat) ({ cls := "BlanketKeys$State", name := "held", desc := "(I)I" } : Jvm.MethodName)) ∈ lw_all := lw_g (lw_at lw_m3 31 rfl) rfl
theorem q568 : (Jvm.Cond.instanceMethod ({ cls := "BlanketKeys$State", name := "held", desc := "(I)I" } : Jvm.MethodName)) ∈ lw_all := lw_g (lw_at lw_m3 32 rfl) rfl
theorem q569 : (Jvm.Cond.selects "BlanketKeys$State" ({ cls := "BlanketKeys$State", name := "held", desc := "(I)I" } : Jvm.MethodName) ({ cls := "BlanketKeys$State", name := "held", desc := "(I)I" } : Jvm.MethodName)) ∈ lw_all := lw_g (lw_at lw_m3 33 rfl) rfl
theorem q570 : (Jvm.Cond.code ({ cls := "BlanketKeys$State", name := "held", desc := "(I)I" } : Jvm.MethodName) prog_6_method_5_code (4 : Nat) (Option.some Jvm.ClassFile.FieldType.int)) ∈ lw_all := lw_g (lw_at lw_m3 34 rfl) rfl
theorem q580 : (Jvm.Cond.instanceMethod ({ cls := "BlanketKeys$State", name := "release", desc := "(II)I" } : Jvm.MethodName)) ∈ lw_all := lw_g (lw_at lw_m3 44 rfl) rfl
theorem q581 : (Jvm.Cond.selects "BlanketKeys$State" ({ cls := "BlanketKeys$State", name := "release", desc := "(II)I" } : Jvm.MethodName) ({ cls := "BlanketKeys$State", name := "release", desc := "(II)I" } : Jvm.MethodName)) ∈ lw_all := lw_g (lw_at lw_m3 45 rfl) rfl
theorem q582 : (Jvm.Cond.code ({ cls := "BlanketKeys$State", name := "release", desc := "(II)I" } : Jvm.MethodName) prog_6_method_19_code (3 : Nat) (Option.some Jvm.ClassFile.FieldType.int)) ∈ lw_all := lw_g (lw_at lw_m3 46 rfl) rfl
theorem q588 : (Jvm.Cond.instanceMethod ({ cls := "BlanketKeys$State", name := "pass", desc := "()I" } : Jvm.MethodName)) ∈ lw_all := lw_g (lw_at lw_m3 52 rfl) rfl
theorem q589 : (Jvm.Cond.selects "BlanketKeys$State" ({ cls := "BlanketKeys$State", name := "pass", desc := "()I" } : Jvm.MethodName) ({ cls := "BlanketKeys$State", name := "pass", desc := "()I" } : Jvm.MethodName)) ∈ lw_all := lw_g (lw_at lw_m3 53 rfl) rfl
theorem q590 : (Jvm.Cond.code ({ cls := "BlanketKeys$State", name := "pass", desc := "()I" } : Jvm.MethodName) prog_6_method_11_code (7 : Nat) (Option.some Jvm.ClassFile.FieldType.int)) ∈ lw_all := lw_g (lw_at lw_m3 54 rfl) rfl
theorem q591 : (Jvm.Cond.methodLink "BlanketKeys$State" (145 : Nat) ({ cls := "BlanketKeys$State", name := "sensed", desc := "(I)I" } : Jvm.MethodName)) ∈ lw_all := lw_g (lw_at lw_m3 55 rfl) rfl
theorem q592 : (Jvm.Cond.instanceMethod ({ cls := "BlanketKeys$State", name := "sensed", desc := "(I)I" } : Jvm.MethodName)) ∈ lw_all := lw_g (lw_at lw_m3 56 rfl) rfl
theorem q593 : (Jvm.Cond.selects "BlanketKeys$State" ({ cls := "BlanketKeys$State", name := "sensed", desc := "(I)I" } : Jvm.MethodName) ({ cls := "BlanketKeys$State", name := "sensed", desc := "(I)I" } : Jvm.MethodName)) ∈ lw_all := lw_g (lw_at lw_m3 57 rfl) rfl
theorem q594 : (Jvm.Cond.code ({ cls := "BlanketKeys$State", name := "sensed", desc := "(I)I" } : Jvm.MethodName) prog_6_method_8_code (8 : Nat) (Option.some Jvm.ClassFile.FieldType.int)) ∈ lw_all := lw_g (lw_at lw_m3 58 rfl) rfl
theorem q595 : (Jvm.Cond.methodLink "BlanketKeys$State" (148 : Nat) ({ cls := "BlanketKeys$State", name := "at", desc := "(II)LBlanketKeys$Key;" } : Jvm.MethodName)) ∈ lw_all := lw_g (lw_at lw_m3 59 rfl) rfl
theorem q596 : (Jvm.Cond.instanceMethod ({ cls := "BlanketKeys$State", name := "at", desc := "(II)LBlanketKeys$Key;" } : Jvm.MethodName)) ∈ lw_all := lw_g (lw_at lw_m3 60 rfl) rfl
theorem q597 : (Jvm.Cond.selects "BlanketKeys$State" ({ cls := "BlanketKeys$State", name := "at", desc := "(II)LBlanketKeys$Key;" } : Jvm.MethodName) ({ cls := "BlanketKeys$State", name := "at", desc := "(II)LBlanketKeys$Key;" } : Jvm.MethodName)) ∈ lw_all := lw_g (lw_at lw_m3 61 rfl) rfl
theorem q598 : (Jvm.Cond.code ({ cls := "BlanketKeys$State", name := "at", desc := "(II)LBlanketKeys$Key;" } : Jvm.MethodName) prog_6_method_4_code (3 : Nat) (Option.some (Jvm.ClassFile.FieldType.object "BlanketKeys$Key"))) ∈ lw_all := lw_g (lw_at lw_m3 62 rfl) rfl
theorem q599 : (Jvm.Cond.methodLink "BlanketKeys$State" (134 : Nat) ({ cls := "BlanketKeys$Key", name := "isSeen", desc := "()Z" } : Jvm.MethodName)) ∈ lw_all := lw_g (lw_at lw_m3 63 rfl) rfl
theorem q600 : (Jvm.Cond.methodLink "BlanketKeys$State" (152 : Nat) ({ cls := "BlanketKeys$State", name := "end", desc := "(I)V" } : Jvm.MethodName)) ∈ lw_all := lw_g (lw_at lw_m3 64 rfl) rfl
theorem q601 : (Jvm.Cond.privateMethod ({ cls := "BlanketKeys$State", name := "end", desc := "(I)V" } : Jvm.MethodName)) ∈ lw_tbl := lw_at lw_m3 65 rfl
theorem q602 : (Jvm.Cond.instanceMethod ({ cls := "BlanketKeys$State", name := "end", desc := "(I)V" } : Jvm.MethodName)) ∈ lw_all := lw_g (lw_at lw_m3 66 rfl) rfl
theorem q603 : (Jvm.Cond.code ({ cls := "BlanketKeys$State", name := "end", desc := "(I)V" } : Jvm.MethodName) prog_6_method_14_code (5 : Nat) (Option.none : Option Jvm.ClassFile.FieldType)) ∈ lw_all := lw_g (lw_at lw_m3 67 rfl) rfl
theorem q605 : (Jvm.Cond.methodLink "BlanketKeys$State" (183 : Nat) ({ cls := "BlanketKeys$State", name := "verdict", desc := "(LBlanketKeys$Key;I)I" } : Jvm.MethodName)) ∈ lw_all := lw_g (lw_at lw_m3 69 rfl) rfl
theorem q606 : (Jvm.Cond.instanceMethod ({ cls := "BlanketKeys$State", name := "verdict", desc := "(LBlanketKeys$Key;I)I" } : Jvm.MethodName)) ∈ lw_all := lw_g (lw_at lw_m3 70 rfl) rfl
theorem q607 : (Jvm.Cond.selects "BlanketKeys$State" ({ cls := "BlanketKeys$State", name := "verdict", desc := "(LBlanketKeys$Key;I)I" } : Jvm.MethodName) ({ cls := "BlanketKeys$State", name := "verdict", desc := "(LBlanketKeys$Key;I)I" } : Jvm.MethodName)) ∈ lw_all := lw_g (lw_at lw_m3 71 rfl) rfl
theorem q608 : (Jvm.Cond.code ({ cls := "BlanketKeys$State", name := "verdict", desc := "(LBlanketKeys$Key;I)I" } : Jvm.MethodName) prog_6_method_13_code (6 : Nat) (Option.some Jvm.ClassFile.FieldType.int)) ∈ lw_all := lw_g (lw_at lw_m3 72 rfl) rfl
theorem q609 : (Jvm.Cond.methodLink "BlanketKeys$State" (176 : Nat) ({ cls := "BlanketKeys$State", name := "nearest", desc := "(II)I" } : Jvm.MethodName)) ∈ lw_all := lw_g (lw_at lw_m3 73 rfl) rfl
theorem q610 : (Jvm.Cond.privateMethod ({ cls := "BlanketKeys$State", name := "nearest", desc := "(II)I" } : Jvm.MethodName)) ∈ lw_tbl := lw_at lw_m3 74 rfl
theorem q611 : (Jvm.Cond.instanceMethod ({ cls := "BlanketKeys$State", name := "nearest", desc := "(II)I" } : Jvm.MethodName)) ∈ lw_all := lw_g (lw_at lw_m3 75 rfl) rfl
theorem q612 : (Jvm.Cond.code ({ cls := "BlanketKeys$State", name := "nearest", desc := "(II)I" } : Jvm.MethodName) prog_6_method_12_code (3 : Nat) (Option.some Jvm.ClassFile.FieldType.int)) ∈ lw_all := lw_g (lw_at lw_m3 76 rfl) rfl
theorem q613 : (Jvm.Cond.methodLink "BlanketKeys$State" (172 : Nat) ({ cls := "BlanketKeys$Style", name := "distance", desc := "(II)F" } : Jvm.MethodName)) ∈ lw_all := lw_g (lw_at lw_m3 77 rfl) rfl
theorem q628 : (Jvm.Cond.methodLinkNest "BlanketKeys$State" (180 : Nat) ({ cls := "BlanketKeys", name := "size", desc := "(F)F" } : Jvm.MethodName) "BlanketKeys") ∈ lw_tbl := lw_at lw_m3 92 rfl
theorem q629 : (Jvm.Cond.methodLink "BlanketKeys$State" (187 : Nat) ({ cls := "BlanketKeys$Stroke", name := "<init>", desc := "(IIIIII)V" } : Jvm.MethodName)) ∈ lw_all := lw_g (lw_at lw_m3 93 rfl) rfl
theorem q634 : (Jvm.Cond.fieldLinkNest "BlanketKeys$State" (216 : Nat) "BlanketKeys$Stroke" "key" "I" "BlanketKeys") ∈ lw_tbl := lw_at lw_m3 98 rfl
theorem q637 : (Jvm.Cond.fieldLinkNest "BlanketKeys$State" (204 : Nat) "BlanketKeys$Stroke" "since" "I" "BlanketKeys") ∈ lw_tbl := lw_at lw_m3 101 rfl
theorem q640 : (Jvm.Cond.fieldLinkNest "BlanketKeys$State" (205 : Nat) "BlanketKeys$Stroke" "dwell" "I" "BlanketKeys") ∈ lw_tbl := lw_at lw_m3 104 rfl
theorem q643 : (Jvm.Cond.fieldLinkNest "BlanketKeys$State" (227 : Nat) "BlanketKeys$Stroke" "shifts" "I" "BlanketKeys") ∈ lw_tbl := lw_at lw_m3 107 rfl
theorem q648 : (Jvm.Cond.fieldLinkNest "BlanketKeys$State" (194 : Nat) "BlanketKeys$Stroke" "fate" "I" "BlanketKeys") ∈ lw_tbl := lw_at lw_m3 112 rfl
theorem q663 : (Jvm.Cond.methodLink "BlanketKeys$State" (190 : Nat) ({ cls := "BlanketKeys$Latest", name := "put", desc := "(Ljava/lang/Object;)V" } : Jvm.MethodName)) ∈ lw_all := lw_g (lw_at lw_m3 127 rfl) rfl
theorem q664 : (Jvm.Cond.methodLink "BlanketKeys$State" (197 : Nat) ({ cls := "BlanketKeys$State", name := "credit", desc := "(LBlanketKeys$Stroke;Z)V" } : Jvm.MethodName)) ∈ lw_all := lw_g (lw_at lw_m3 128 rfl) rfl
theorem q665 : (Jvm.Cond.instanceMethod ({ cls := "BlanketKeys$State", name := "credit", desc := "(LBlanketKeys$Stroke;Z)V" } : Jvm.MethodName)) ∈ lw_all := lw_g (lw_at lw_m3 129 rfl) rfl
theorem q666 : (Jvm.Cond.selects "BlanketKeys$State" ({ cls := "BlanketKeys$State", name := "credit", desc := "(LBlanketKeys$Stroke;Z)V" } : Jvm.MethodName) ({ cls := "BlanketKeys$State", name := "credit", desc := "(LBlanketKeys$Stroke;Z)V" } : Jvm.MethodName)) ∈ lw_all := lw_g (lw_at lw_m3 130 rfl) rfl
theorem q667 : (Jvm.Cond.code ({ cls := "BlanketKeys$State", name := "credit", desc := "(LBlanketKeys$Stroke;Z)V" } : Jvm.MethodName) prog_6_method_15_code (4 : Nat) (Option.none : Option Jvm.ClassFile.FieldType)) ∈ lw_all := lw_g (lw_at lw_m3 131 rfl) rfl
theorem q668 : (Jvm.Cond.methodLink "BlanketKeys$State" (201 : Nat) ({ cls := "BlanketKeys$Stroke", name := "isRight", desc := "()Z" } : Jvm.MethodName)) ∈ lw_all := lw_g (lw_at lw_m3 132 rfl) rfl
theorem q673 : (Jvm.Cond.methodLink "BlanketKeys$State" (208 : Nat) ({ cls := "BlanketKeys$Style", name := "learn", desc := "(IIF)V" } : Jvm.MethodName)) ∈ lw_all := lw_g (lw_at lw_m3 137 rfl) rfl
theorem q680 : (Jvm.Cond.methodLink "BlanketKeys$State" (212 : Nat) ({ cls := "BlanketKeys$State", name := "write", desc := "(ILBlanketKeys$Stroke;)V" } : Jvm.MethodName)) ∈ lw_all := lw_g (lw_at lw_m3 144 rfl) rfl
theorem q681 : (Jvm.Cond.privateMethod ({ cls := "BlanketKeys$State", name := "write", desc := "(ILBlanketKeys$Stroke;)V" } : Jvm.MethodName)) ∈ lw_tbl := lw_at lw_m3 145 rfl
theorem q682 : (Jvm.Cond.instanceMethod ({ cls := "BlanketKeys$State", name := "write", desc := "(ILBlanketKeys$Stroke;)V" } : Jvm.MethodName)) ∈ lw_all := lw_g (lw_at lw_m3 146 rfl) rfl
theorem q683 : (Jvm.Cond.code ({ cls := "BlanketKeys$State", name := "write", desc := "(ILBlanketKeys$Stroke;)V" } : Jvm.MethodName) prog_6_method_16_code (6 : Nat) (Option.none : Option Jvm.ClassFile.FieldType)) ∈ lw_all := lw_g (lw_at lw_m3 147 rfl) rfl
theorem q684 : (Jvm.Cond.methodLinkNest "BlanketKeys$State" (223 : Nat) ({ cls := "BlanketKeys", name := "isLetter", desc := "(C)Z" } : Jvm.MethodName) "BlanketKeys") ∈ lw_tbl := lw_at lw_m3 148 rfl
theorem q685 : (Jvm.Cond.methodLink "BlanketKeys$State" (228 : Nat) ({ cls := "java/lang/Character", name := "valueOf", desc := "(C)Ljava/lang/Character;" } : Jvm.MethodName)) ∈ lw_all := lw_g (lw_at lw_m3 149 rfl) rfl
theorem q700 : (Jvm.Cond.methodLink "BlanketKeys$State" (158 : Nat) ({ cls := "BlanketKeys$State", name := "isCorner", desc := "(II)Z" } : Jvm.MethodName)) ∈ lw_all := lw_g (lw_at lw_m3 164 rfl) rfl
theorem q701 : (Jvm.Cond.privateMethod ({ cls := "BlanketKeys$State", name := "isCorner", desc := "(II)Z" } : Jvm.MethodName)) ∈ lw_tbl := lw_at lw_m3 165 rfl
theorem q702 : (Jvm.Cond.instanceMethod ({ cls := "BlanketKeys$State", name := "isCorner", desc := "(II)Z" } : Jvm.MethodName)) ∈ lw_all := lw_g (lw_at lw_m3 166 rfl) rfl
theorem q703 : (Jvm.Cond.code ({ cls := "BlanketKeys$State", name := "isCorner", desc := "(II)Z" } : Jvm.MethodName) prog_6_method_10_code (5 : Nat) (Option.some Jvm.ClassFile.FieldType.boolean)) ∈ lw_all := lw_g (lw_at lw_m3 167 rfl) rfl
theorem q704 : (Jvm.Cond.methodLink "BlanketKeys$State" (162 : Nat) ({ cls := "BlanketKeys$State", name := "isShiftOn", desc := "(I)Z" } : Jvm.MethodName)) ∈ lw_all := lw_g (lw_at lw_m3 168 rfl) rfl
theorem q705 : (Jvm.Cond.instanceMethod ({ cls := "BlanketKeys$State", name := "isShiftOn", desc := "(I)Z" } : Jvm.MethodName)) ∈ lw_all := lw_g (lw_at lw_m3 169 rfl) rfl
theorem q706 : (Jvm.Cond.selects "BlanketKeys$State" ({ cls := "BlanketKeys$State", name := "isShiftOn", desc := "(I)Z" } : Jvm.MethodName) ({ cls := "BlanketKeys$State", name := "isShiftOn", desc := "(I)Z" } : Jvm.MethodName)) ∈ lw_all := lw_g (lw_at lw_m3 170 rfl) rfl
theorem q707 : (Jvm.Cond.code ({ cls := "BlanketKeys$State", name := "isShiftOn", desc := "(I)Z" } : Jvm.MethodName) prog_6_method_7_code (3 : Nat) (Option.some Jvm.ClassFile.FieldType.boolean)) ∈ lw_all := lw_g (lw_at lw_m3 171 rfl) rfl
theorem q708 : (Jvm.Cond.methodLink "BlanketKeys$State" (131 : Nat) ({ cls := "BlanketKeys$State", name := "shiftOf", desc := "(I)I" } : Jvm.MethodName)) ∈ lw_all := lw_g (lw_at lw_m3 172 rfl) rfl
theorem q719 : (Jvm.Cond.instanceMethod ({ cls := "BlanketKeys$State", name := "settle", desc := "(II)V" } : Jvm.MethodName)) ∈ lw_all := lw_g (lw_at lw_m3 183 rfl) rfl
theorem q720 : (Jvm.Cond.selects "BlanketKeys$State" ({ cls := "BlanketKeys$State", name := "settle", desc := "(II)V" } : Jvm.MethodName) ({ cls := "BlanketKeys$State", name := "settle", desc := "(II)V" } : Jvm.MethodName)) ∈ lw_all := lw_g (lw_at lw_m3 184 rfl) rfl
theorem q721 : (Jvm.Cond.code ({ cls := "BlanketKeys$State", name := "settle", desc := "(II)V" } : Jvm.MethodName) prog_6_method_17_code (5 : Nat) (Option.none : Option Jvm.ClassFile.FieldType)) ∈ lw_all := lw_g (lw_at lw_m3 185 rfl) rfl
theorem q722 : (Jvm.Cond.methodLink "BlanketKeys$State" (234 : Nat) ({ cls := "BlanketKeys$Stroke", name := "withFate", desc := "(I)LBlanketKeys$Stroke;" } : Jvm.MethodName)) ∈ lw_all := lw_g (lw_at lw_m3 186 rfl) rfl
theorem q728 : (Jvm.Cond.interfaceEntry "BlanketKeys$State" (238 : Nat)) ∈ lw_tbl := lw_at lw_m3 192 rfl
theorem q729 : (Jvm.Cond.methodLink "BlanketKeys$State" (238 : Nat) ({ cls := "java/util/List", name := "set", desc := "(ILjava/lang/Object;)Ljava/lang/Object;" } : Jvm.MethodName)) ∈ lw_all := lw_g (lw_at lw_m3 193 rfl) rfl
theorem q737 : (Jvm.Cond.methodLink "BlanketKeys$State" (245 : Nat) ({ cls := "BlanketKeys$Stroke", name := "isSame", desc := "(LBlanketKeys$Stroke;)Z" } : Jvm.MethodName)) ∈ lw_all := lw_g (lw_at lw_m3 201 rfl) rfl
theorem q1033 : (Jvm.Cond.instanceMethod ({ cls := "BlanketKeys$State", name := "isSensed", desc := "(I)Z" } : Jvm.MethodName)) ∈ lw_all := lw_g (lw_at lw_m5 17 rfl) rfl
theorem q1034 : (Jvm.Cond.selects "BlanketKeys$State" ({ cls := "BlanketKeys$State", name := "isSensed", desc := "(I)Z" } : Jvm.MethodName) ({ cls := "BlanketKeys$State", name := "isSensed", desc := "(I)Z" } : Jvm.MethodName)) ∈ lw_all := lw_g (lw_at lw_m5 18 rfl) rfl
theorem q1035 : (Jvm.Cond.code ({ cls := "BlanketKeys$State", name := "isSensed", desc := "(I)Z" } : Jvm.MethodName) prog_6_method_9_code (2 : Nat) (Option.some Jvm.ClassFile.FieldType.boolean)) ∈ lw_all := lw_g (lw_at lw_m5 19 rfl) rfl
theorem q1117 : (Jvm.Cond.instanceMethod ({ cls := "BlanketKeys$State", name := "openDisputes", desc := "()I" } : Jvm.MethodName)) ∈ lw_all := lw_g (lw_at lw_m5 101 rfl) rfl
theorem q1118 : (Jvm.Cond.selects "BlanketKeys$State" ({ cls := "BlanketKeys$State", name := "openDisputes", desc := "()I" } : Jvm.MethodName) ({ cls := "BlanketKeys$State", name := "openDisputes", desc := "()I" } : Jvm.MethodName)) ∈ lw_all := lw_g (lw_at lw_m5 102 rfl) rfl
theorem q1119 : (Jvm.Cond.code ({ cls := "BlanketKeys$State", name := "openDisputes", desc := "()I" } : Jvm.MethodName) prog_6_method_20_code (3 : Nat) (Option.some Jvm.ClassFile.FieldType.int)) ∈ lw_all := lw_g (lw_at lw_m5 103 rfl) rfl
theorem q1452 : (Jvm.Cond.castable "BlanketKeys$State" "java/lang/Object") ∈ lw_tbl := lw_at lw_m6 196 rfl
theorem in_X1 : ∀ w ∈ wsX10, w ∈ lw_all := lw_in wsX10 [271, 273, 275, 277, 279, 281, 283, 285, 287, 289, 291, 293, 295, 297, 299, 301] (by decide +kernel) (by decide +kernel)
