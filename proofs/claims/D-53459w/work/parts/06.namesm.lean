/-! BlanketKeysModel -/
set_option maxRecDepth 100000
def RX5 : String := "BlanketKeysModel"
def TX5 : u_T := fun k => match k with
  | 0 => ("BlanketKeysModel", "row", "[I", true)
  | 1 => ("BlanketKeysModel", "past", "[I", true)
  | 2 => ("BlanketKeysModel", "aside", "[I", true)
  | 3 => ("BlanketKeysModel", "before", "[I", true)
  | 4 => ("BlanketKeysModel", "style", "[F", true)
  | 5 => ("BlanketKeysModel", "pastStyle", "[F", true)
  | 6 => ("BlanketKeysModel", "asideStyle", "[F", true)
  | 7 => ("BlanketKeysModel", "beforeStyle", "[F", true)
  | 8 => ("BlanketKeysModel", "states", "I", false)
  | 9 => ("BlanketKeysModel", "isAside", "Z", false)
  | 10 => ("BlanketKeysModel", "text", "[C", true)
  | 11 => ("BlanketKeysModel", "length", "I", false)
  | 12 => ("BlanketKeysModel", "at", "I", false)
  | 13 => ("BlanketKeysModel", "columnsNow", "I", false)
  | _ => ("BlanketKeysModel", "rowsNow", "I", false)
def tyX5 : Nat → FieldType := fun k => match k with
  | 0 => .array .int
  | 1 => .array .int
  | 2 => .array .int
  | 3 => .array .int
  | 4 => .array .float
  | 5 => .array .float
  | 6 => .array .float
  | 7 => .array .float
  | 8 => .int
  | 9 => .boolean
  | 10 => .array .char
  | 11 => .int
  | 12 => .int
  | 13 => .int
  | _ => .int
abbrev wsX50 : List Cond := u_ws RX5 TX5 15
set_option maxRecDepth 100000 in
theorem nmX5 : ∀ a, a < 15 → ∀ b, b < 15 → a ≠ b → (TX5 a).2.1 ≠ (TX5 b).2.1 := by decide +kernel
set_option maxRecDepth 100000 in
theorem tyX5_ok : ∀ k, k < 15 → parseFieldDescriptor (TX5 k).2.2.1 = some (tyX5 k) := by decide +kernel
abbrev cX5_init : ByteArray := prog_11_method_1_code
def yX5_init : MethodName := ⟨RX5, "<init>", "()V"⟩
def dkwX5_init_8 : List UInt8 := [42, 182, 0, 44, 177]
abbrev dktX5_init_8 : List UInt8 := dkwX5_init_8 ++ []
def dkwX5_init_7 : List UInt8 := [180, 0, 22, 7, 18, 41, 81, 42, 180, 0, 22, 8, 18, 42, 81, 42, 180, 0, 22, 16, 6, 18, 43, 81]
abbrev dktX5_init_7 : List UInt8 := dkwX5_init_7 ++ dktX5_init_8
def dkwX5_init_6 : List UInt8 := [180, 0, 22, 5, 27, 96, 18, 40, 18, 39, 27, 134, 106, 98, 81, 132, 1, 1, 167, 255, 196, 42]
abbrev dktX5_init_6 : List UInt8 := dkwX5_init_6 ++ dktX5_init_7
def dkwX5_init_5 : List UInt8 := [8, 27, 96, 16, 251, 79, 42, 180, 0, 22, 3, 27, 96, 18, 39, 18, 39, 27, 134, 106, 98, 81, 42]
abbrev dktX5_init_5 : List UInt8 := dkwX5_init_5 ++ dktX5_init_6
def dkwX5_init_4 : List UInt8 := [16, 6, 79, 3, 60, 27, 5, 162, 0, 61, 42, 180, 0, 7, 6, 27, 96, 16, 251, 79, 42, 180, 0, 7]
abbrev dktX5_init_4 : List UInt8 := dkwX5_init_4 ++ dktX5_init_5
def dkwX5_init_3 : List UInt8 := [181, 0, 32, 42, 16, 60, 188, 5, 181, 0, 35, 42, 180, 0, 7, 3, 7, 79, 42, 180, 0, 7, 4]
abbrev dktX5_init_3 : List UInt8 := dkwX5_init_3 ++ dktX5_init_4
def dkwX5_init_2 : List UInt8 := [181, 0, 22, 42, 16, 28, 188, 6, 181, 0, 26, 42, 16, 7, 188, 6, 181, 0, 29, 42, 16, 7, 188, 6]
abbrev dktX5_init_2 : List UInt8 := dkwX5_init_2 ++ dktX5_init_3
def dkwX5_init_1 : List UInt8 := [17, 2, 80, 188, 10, 181, 0, 16, 42, 17, 2, 80, 188, 10, 181, 0, 19, 42, 16, 7, 188, 6]
abbrev dktX5_init_1 : List UInt8 := dkwX5_init_1 ++ dktX5_init_2
def dkwX5_init_0 : List UInt8 := [42, 183, 0, 1, 42, 17, 2, 80, 188, 10, 181, 0, 7, 42, 17, 9, 64, 188, 10, 181, 0, 13, 42]
abbrev dktX5_init_0 : List UInt8 := dkwX5_init_0 ++ dktX5_init_1
theorem dksX5_init_0 : cX5_init.data.toList.drop 0 = dktX5_init_0 := by decide +kernel
theorem dksX5_init_1 : cX5_init.data.toList.drop 23 = dktX5_init_1 := dk_seg dksX5_init_0 23 rfl rfl
theorem dksX5_init_2 : cX5_init.data.toList.drop 45 = dktX5_init_2 := dk_seg dksX5_init_1 22 rfl rfl
theorem dksX5_init_3 : cX5_init.data.toList.drop 69 = dktX5_init_3 := dk_seg dksX5_init_2 24 rfl rfl
theorem dksX5_init_4 : cX5_init.data.toList.drop 92 = dktX5_init_4 := dk_seg dksX5_init_3 23 rfl rfl
theorem dksX5_init_5 : cX5_init.data.toList.drop 116 = dktX5_init_5 := dk_seg dksX5_init_4 24 rfl rfl
theorem dksX5_init_6 : cX5_init.data.toList.drop 139 = dktX5_init_6 := dk_seg dksX5_init_5 23 rfl rfl
theorem dksX5_init_7 : cX5_init.data.toList.drop 161 = dktX5_init_7 := dk_seg dksX5_init_6 22 rfl rfl
theorem dksX5_init_8 : cX5_init.data.toList.drop 185 = dktX5_init_8 := dk_seg dksX5_init_7 24 rfl rfl
theorem dX5_init_0 : decode cX5_init 0 = .ok (.aload_n 0, 1) := dk_42 (dk_at dksX5_init_0 0 rfl rfl)
theorem dX5_init_1 : decode cX5_init 1 = .ok (.invokespecial 1, 3) := dk_183 0 1 (dk_at dksX5_init_0 1 rfl rfl)
theorem dX5_init_4 : decode cX5_init 4 = .ok (.aload_n 0, 1) := dk_42 (dk_at dksX5_init_0 4 rfl rfl)
theorem dX5_init_5 : decode cX5_init 5 = .ok (.sipush 592, 3) := dk_17 2 80 (dk_at dksX5_init_0 5 rfl rfl)
theorem dX5_init_8 : decode cX5_init 8 = .ok (.newarray .int, 2) := dk_188_10 (dk_at dksX5_init_0 8 rfl rfl)
theorem dX5_init_10 : decode cX5_init 10 = .ok (.putfield 7, 3) := dk_181 0 7 (dk_at dksX5_init_0 10 rfl rfl)
theorem dX5_init_13 : decode cX5_init 13 = .ok (.aload_n 0, 1) := dk_42 (dk_at dksX5_init_0 13 rfl rfl)
theorem dX5_init_14 : decode cX5_init 14 = .ok (.sipush 2368, 3) := dk_17 9 64 (dk_at dksX5_init_0 14 rfl rfl)
theorem dX5_init_17 : decode cX5_init 17 = .ok (.newarray .int, 2) := dk_188_10 (dk_at dksX5_init_0 17 rfl rfl)
theorem dX5_init_19 : decode cX5_init 19 = .ok (.putfield 13, 3) := dk_181 0 13 (dk_at dksX5_init_0 19 rfl rfl)
theorem dX5_init_22 : decode cX5_init 22 = .ok (.aload_n 0, 1) := dk_42 (dk_at dksX5_init_0 22 rfl rfl)
theorem dX5_init_23 : decode cX5_init 23 = .ok (.sipush 592, 3) := dk_17 2 80 (dk_at dksX5_init_1 0 rfl rfl)
theorem dX5_init_26 : decode cX5_init 26 = .ok (.newarray .int, 2) := dk_188_10 (dk_at dksX5_init_1 3 rfl rfl)
theorem dX5_init_28 : decode cX5_init 28 = .ok (.putfield 16, 3) := dk_181 0 16 (dk_at dksX5_init_1 5 rfl rfl)
theorem dX5_init_31 : decode cX5_init 31 = .ok (.aload_n 0, 1) := dk_42 (dk_at dksX5_init_1 8 rfl rfl)
theorem dX5_init_32 : decode cX5_init 32 = .ok (.sipush 592, 3) := dk_17 2 80 (dk_at dksX5_init_1 9 rfl rfl)
theorem dX5_init_35 : decode cX5_init 35 = .ok (.newarray .int, 2) := dk_188_10 (dk_at dksX5_init_1 12 rfl rfl)
theorem dX5_init_37 : decode cX5_init 37 = .ok (.putfield 19, 3) := dk_181 0 19 (dk_at dksX5_init_1 14 rfl rfl)
theorem dX5_init_40 : decode cX5_init 40 = .ok (.aload_n 0, 1) := dk_42 (dk_at dksX5_init_1 17 rfl rfl)
theorem dX5_init_41 : decode cX5_init 41 = .ok (.bipush 7, 2) := dk_16 7 (dk_at dksX5_init_1 18 rfl rfl)
theorem dX5_init_43 : decode cX5_init 43 = .ok (.newarray .float, 2) := dk_188_6 (dk_at dksX5_init_1 20 rfl rfl)
theorem dX5_init_45 : decode cX5_init 45 = .ok (.putfield 22, 3) := dk_181 0 22 (dk_at dksX5_init_2 0 rfl rfl)
theorem dX5_init_48 : decode cX5_init 48 = .ok (.aload_n 0, 1) := dk_42 (dk_at dksX5_init_2 3 rfl rfl)
theorem dX5_init_49 : decode cX5_init 49 = .ok (.bipush 28, 2) := dk_16 28 (dk_at dksX5_init_2 4 rfl rfl)
theorem dX5_init_51 : decode cX5_init 51 = .ok (.newarray .float, 2) := dk_188_6 (dk_at dksX5_init_2 6 rfl rfl)
theorem dX5_init_53 : decode cX5_init 53 = .ok (.putfield 26, 3) := dk_181 0 26 (dk_at dksX5_init_2 8 rfl rfl)
theorem dX5_init_56 : decode cX5_init 56 = .ok (.aload_n 0, 1) := dk_42 (dk_at dksX5_init_2 11 rfl rfl)
theorem dX5_init_57 : decode cX5_init 57 = .ok (.bipush 7, 2) := dk_16 7 (dk_at dksX5_init_2 12 rfl rfl)
theorem dX5_init_59 : decode cX5_init 59 = .ok (.newarray .float, 2) := dk_188_6 (dk_at dksX5_init_2 14 rfl rfl)
theorem dX5_init_61 : decode cX5_init 61 = .ok (.putfield 29, 3) := dk_181 0 29 (dk_at dksX5_init_2 16 rfl rfl)
theorem dX5_init_64 : decode cX5_init 64 = .ok (.aload_n 0, 1) := dk_42 (dk_at dksX5_init_2 19 rfl rfl)
theorem dX5_init_65 : decode cX5_init 65 = .ok (.bipush 7, 2) := dk_16 7 (dk_at dksX5_init_2 20 rfl rfl)
theorem dX5_init_67 : decode cX5_init 67 = .ok (.newarray .float, 2) := dk_188_6 (dk_at dksX5_init_2 22 rfl rfl)
theorem dX5_init_69 : decode cX5_init 69 = .ok (.putfield 32, 3) := dk_181 0 32 (dk_at dksX5_init_3 0 rfl rfl)
theorem dX5_init_72 : decode cX5_init 72 = .ok (.aload_n 0, 1) := dk_42 (dk_at dksX5_init_3 3 rfl rfl)
theorem dX5_init_73 : decode cX5_init 73 = .ok (.bipush 60, 2) := dk_16 60 (dk_at dksX5_init_3 4 rfl rfl)
theorem dX5_init_75 : decode cX5_init 75 = .ok (.newarray .char, 2) := dk_188_5 (dk_at dksX5_init_3 6 rfl rfl)
theorem dX5_init_77 : decode cX5_init 77 = .ok (.putfield 35, 3) := dk_181 0 35 (dk_at dksX5_init_3 8 rfl rfl)
theorem dX5_init_80 : decode cX5_init 80 = .ok (.aload_n 0, 1) := dk_42 (dk_at dksX5_init_3 11 rfl rfl)
theorem dX5_init_81 : decode cX5_init 81 = .ok (.getfield 7, 3) := dk_180 0 7 (dk_at dksX5_init_3 12 rfl rfl)
theorem dX5_init_84 : decode cX5_init 84 = .ok (.iconst 0, 1) := dk_3 (dk_at dksX5_init_3 15 rfl rfl)
theorem dX5_init_85 : decode cX5_init 85 = .ok (.iconst 4, 1) := dk_7 (dk_at dksX5_init_3 16 rfl rfl)
theorem dX5_init_86 : decode cX5_init 86 = .ok (.iastore, 1) := dk_79 (dk_at dksX5_init_3 17 rfl rfl)
theorem dX5_init_87 : decode cX5_init 87 = .ok (.aload_n 0, 1) := dk_42 (dk_at dksX5_init_3 18 rfl rfl)
theorem dX5_init_88 : decode cX5_init 88 = .ok (.getfield 7, 3) := dk_180 0 7 (dk_at dksX5_init_3 19 rfl rfl)
theorem dX5_init_91 : decode cX5_init 91 = .ok (.iconst 1, 1) := dk_4 (dk_at dksX5_init_3 22 rfl rfl)
theorem dX5_init_92 : decode cX5_init 92 = .ok (.bipush 6, 2) := dk_16 6 (dk_at dksX5_init_4 0 rfl rfl)
theorem dX5_init_94 : decode cX5_init 94 = .ok (.iastore, 1) := dk_79 (dk_at dksX5_init_4 2 rfl rfl)
theorem dX5_init_95 : decode cX5_init 95 = .ok (.iconst 0, 1) := dk_3 (dk_at dksX5_init_4 3 rfl rfl)
theorem dX5_init_96 : decode cX5_init 96 = .ok (.istore_n 1, 1) := dk_60 (dk_at dksX5_init_4 4 rfl rfl)
theorem dX5_init_97 : decode cX5_init 97 = .ok (.iload_n 1, 1) := dk_27 (dk_at dksX5_init_4 5 rfl rfl)
theorem dX5_init_98 : decode cX5_init 98 = .ok (.iconst 2, 1) := dk_5 (dk_at dksX5_init_4 6 rfl rfl)
theorem dX5_init_99 : decode cX5_init 99 = .ok (.if_icmp .ge 61, 3) := dk_162 0 61 (dk_at dksX5_init_4 7 rfl rfl)
theorem dX5_init_102 : decode cX5_init 102 = .ok (.aload_n 0, 1) := dk_42 (dk_at dksX5_init_4 10 rfl rfl)
theorem dX5_init_103 : decode cX5_init 103 = .ok (.getfield 7, 3) := dk_180 0 7 (dk_at dksX5_init_4 11 rfl rfl)
theorem dX5_init_106 : decode cX5_init 106 = .ok (.iconst 3, 1) := dk_6 (dk_at dksX5_init_4 14 rfl rfl)
theorem dX5_init_107 : decode cX5_init 107 = .ok (.iload_n 1, 1) := dk_27 (dk_at dksX5_init_4 15 rfl rfl)
theorem dX5_init_108 : decode cX5_init 108 = .ok (.iadd, 1) := dk_96 (dk_at dksX5_init_4 16 rfl rfl)
theorem dX5_init_109 : decode cX5_init 109 = .ok (.bipush (-5), 2) := dk_16 251 (dk_at dksX5_init_4 17 rfl rfl)
theorem dX5_init_111 : decode cX5_init 111 = .ok (.iastore, 1) := dk_79 (dk_at dksX5_init_4 19 rfl rfl)
theorem dX5_init_112 : decode cX5_init 112 = .ok (.aload_n 0, 1) := dk_42 (dk_at dksX5_init_4 20 rfl rfl)
theorem dX5_init_113 : decode cX5_init 113 = .ok (.getfield 7, 3) := dk_180 0 7 (dk_at dksX5_init_4 21 rfl rfl)
theorem dX5_init_116 : decode cX5_init 116 = .ok (.iconst 5, 1) := dk_8 (dk_at dksX5_init_5 0 rfl rfl)
theorem dX5_init_117 : decode cX5_init 117 = .ok (.iload_n 1, 1) := dk_27 (dk_at dksX5_init_5 1 rfl rfl)
theorem dX5_init_118 : decode cX5_init 118 = .ok (.iadd, 1) := dk_96 (dk_at dksX5_init_5 2 rfl rfl)
theorem dX5_init_119 : decode cX5_init 119 = .ok (.bipush (-5), 2) := dk_16 251 (dk_at dksX5_init_5 3 rfl rfl)
theorem dX5_init_121 : decode cX5_init 121 = .ok (.iastore, 1) := dk_79 (dk_at dksX5_init_5 5 rfl rfl)
theorem dX5_init_122 : decode cX5_init 122 = .ok (.aload_n 0, 1) := dk_42 (dk_at dksX5_init_5 6 rfl rfl)
theorem dX5_init_123 : decode cX5_init 123 = .ok (.getfield 22, 3) := dk_180 0 22 (dk_at dksX5_init_5 7 rfl rfl)
theorem dX5_init_126 : decode cX5_init 126 = .ok (.iconst 0, 1) := dk_3 (dk_at dksX5_init_5 10 rfl rfl)
theorem dX5_init_127 : decode cX5_init 127 = .ok (.iload_n 1, 1) := dk_27 (dk_at dksX5_init_5 11 rfl rfl)
theorem dX5_init_128 : decode cX5_init 128 = .ok (.iadd, 1) := dk_96 (dk_at dksX5_init_5 12 rfl rfl)
theorem dX5_init_129 : decode cX5_init 129 = .ok (.ldc 39, 2) := dk_18 39 (dk_at dksX5_init_5 13 rfl rfl)
theorem dX5_init_131 : decode cX5_init 131 = .ok (.ldc 39, 2) := dk_18 39 (dk_at dksX5_init_5 15 rfl rfl)
theorem dX5_init_133 : decode cX5_init 133 = .ok (.iload_n 1, 1) := dk_27 (dk_at dksX5_init_5 17 rfl rfl)
theorem dX5_init_134 : decode cX5_init 134 = .ok (.i2f, 1) := dk_134 (dk_at dksX5_init_5 18 rfl rfl)
theorem dX5_init_135 : decode cX5_init 135 = .ok (.fmul, 1) := dk_106 (dk_at dksX5_init_5 19 rfl rfl)
theorem dX5_init_136 : decode cX5_init 136 = .ok (.fadd, 1) := dk_98 (dk_at dksX5_init_5 20 rfl rfl)
theorem dX5_init_137 : decode cX5_init 137 = .ok (.fastore, 1) := dk_81 (dk_at dksX5_init_5 21 rfl rfl)
theorem dX5_init_138 : decode cX5_init 138 = .ok (.aload_n 0, 1) := dk_42 (dk_at dksX5_init_5 22 rfl rfl)
theorem dX5_init_139 : decode cX5_init 139 = .ok (.getfield 22, 3) := dk_180 0 22 (dk_at dksX5_init_6 0 rfl rfl)
theorem dX5_init_142 : decode cX5_init 142 = .ok (.iconst 2, 1) := dk_5 (dk_at dksX5_init_6 3 rfl rfl)
theorem dX5_init_143 : decode cX5_init 143 = .ok (.iload_n 1, 1) := dk_27 (dk_at dksX5_init_6 4 rfl rfl)
theorem dX5_init_144 : decode cX5_init 144 = .ok (.iadd, 1) := dk_96 (dk_at dksX5_init_6 5 rfl rfl)
theorem dX5_init_145 : decode cX5_init 145 = .ok (.ldc 40, 2) := dk_18 40 (dk_at dksX5_init_6 6 rfl rfl)
theorem dX5_init_147 : decode cX5_init 147 = .ok (.ldc 39, 2) := dk_18 39 (dk_at dksX5_init_6 8 rfl rfl)
theorem dX5_init_149 : decode cX5_init 149 = .ok (.iload_n 1, 1) := dk_27 (dk_at dksX5_init_6 10 rfl rfl)
theorem dX5_init_150 : decode cX5_init 150 = .ok (.i2f, 1) := dk_134 (dk_at dksX5_init_6 11 rfl rfl)
theorem dX5_init_151 : decode cX5_init 151 = .ok (.fmul, 1) := dk_106 (dk_at dksX5_init_6 12 rfl rfl)
theorem dX5_init_152 : decode cX5_init 152 = .ok (.fadd, 1) := dk_98 (dk_at dksX5_init_6 13 rfl rfl)
theorem dX5_init_153 : decode cX5_init 153 = .ok (.fastore, 1) := dk_81 (dk_at dksX5_init_6 14 rfl rfl)
theorem dX5_init_154 : decode cX5_init 154 = .ok (.iinc 1 1, 3) := dk_132 1 1 (dk_at dksX5_init_6 15 rfl rfl)
theorem dX5_init_157 : decode cX5_init 157 = .ok (.goto (-60), 3) := dk_167 255 196 (dk_at dksX5_init_6 18 rfl rfl)
theorem dX5_init_160 : decode cX5_init 160 = .ok (.aload_n 0, 1) := dk_42 (dk_at dksX5_init_6 21 rfl rfl)
theorem dX5_init_161 : decode cX5_init 161 = .ok (.getfield 22, 3) := dk_180 0 22 (dk_at dksX5_init_7 0 rfl rfl)
theorem dX5_init_164 : decode cX5_init 164 = .ok (.iconst 4, 1) := dk_7 (dk_at dksX5_init_7 3 rfl rfl)
theorem dX5_init_165 : decode cX5_init 165 = .ok (.ldc 41, 2) := dk_18 41 (dk_at dksX5_init_7 4 rfl rfl)
theorem dX5_init_167 : decode cX5_init 167 = .ok (.fastore, 1) := dk_81 (dk_at dksX5_init_7 6 rfl rfl)
theorem dX5_init_168 : decode cX5_init 168 = .ok (.aload_n 0, 1) := dk_42 (dk_at dksX5_init_7 7 rfl rfl)
theorem dX5_init_169 : decode cX5_init 169 = .ok (.getfield 22, 3) := dk_180 0 22 (dk_at dksX5_init_7 8 rfl rfl)
theorem dX5_init_172 : decode cX5_init 172 = .ok (.iconst 5, 1) := dk_8 (dk_at dksX5_init_7 11 rfl rfl)
theorem dX5_init_173 : decode cX5_init 173 = .ok (.ldc 42, 2) := dk_18 42 (dk_at dksX5_init_7 12 rfl rfl)
theorem dX5_init_175 : decode cX5_init 175 = .ok (.fastore, 1) := dk_81 (dk_at dksX5_init_7 14 rfl rfl)
theorem dX5_init_176 : decode cX5_init 176 = .ok (.aload_n 0, 1) := dk_42 (dk_at dksX5_init_7 15 rfl rfl)
theorem dX5_init_177 : decode cX5_init 177 = .ok (.getfield 22, 3) := dk_180 0 22 (dk_at dksX5_init_7 16 rfl rfl)
theorem dX5_init_180 : decode cX5_init 180 = .ok (.bipush 6, 2) := dk_16 6 (dk_at dksX5_init_7 19 rfl rfl)
theorem dX5_init_182 : decode cX5_init 182 = .ok (.ldc 43, 2) := dk_18 43 (dk_at dksX5_init_7 21 rfl rfl)
theorem dX5_init_184 : decode cX5_init 184 = .ok (.fastore, 1) := dk_81 (dk_at dksX5_init_7 23 rfl rfl)
theorem dX5_init_185 : decode cX5_init 185 = .ok (.aload_n 0, 1) := dk_42 (dk_at dksX5_init_8 0 rfl rfl)
theorem dX5_init_186 : decode cX5_init 186 = .ok (.invokevirtual 44, 3) := dk_182 0 44 (dk_at dksX5_init_8 1 rfl rfl)
theorem dX5_init_189 : decode cX5_init 189 = .ok (.return_, 1) := dk_177 (dk_at dksX5_init_8 4 rfl rfl)
abbrev cX5_clearKeys : ByteArray := prog_11_method_2_code
def yX5_clearKeys : MethodName := ⟨RX5, "clearKeys", "()V"⟩
def dkwX5_clearKeys_3 : List UInt8 := [96, 16, 46, 79, 132, 1, 1, 167, 255, 180, 177]
abbrev dktX5_clearKeys_3 : List UInt8 := dkwX5_clearKeys_3 ++ []
def dkwX5_clearKeys_2 : List UInt8 := [27, 96, 3, 79, 42, 180, 0, 7, 17, 0, 212, 27, 96, 16, 251, 79, 42, 180, 0, 7, 17, 1, 4, 27]
abbrev dktX5_clearKeys_2 : List UInt8 := dkwX5_clearKeys_2 ++ dktX5_clearKeys_3
def dkwX5_clearKeys_1 : List UInt8 := [16, 68, 27, 96, 16, 251, 79, 42, 180, 0, 7, 16, 116, 27, 96, 3, 79, 42, 180, 0, 7, 17, 0, 164]
abbrev dktX5_clearKeys_1 : List UInt8 := dkwX5_clearKeys_1 ++ dktX5_clearKeys_2
def dkwX5_clearKeys_0 : List UInt8 := [3, 60, 27, 16, 48, 162, 0, 76, 42, 180, 0, 7, 16, 20, 27, 96, 16, 251, 79, 42, 180, 0, 7]
abbrev dktX5_clearKeys_0 : List UInt8 := dkwX5_clearKeys_0 ++ dktX5_clearKeys_1
theorem dksX5_clearKeys_0 : cX5_clearKeys.data.toList.drop 0 = dktX5_clearKeys_0 := by decide +kernel
theorem dksX5_clearKeys_1 : cX5_clearKeys.data.toList.drop 23 = dktX5_clearKeys_1 := dk_seg dksX5_clearKeys_0 23 rfl rfl
theorem dksX5_clearKeys_2 : cX5_clearKeys.data.toList.drop 47 = dktX5_clearKeys_2 := dk_seg dksX5_clearKeys_1 24 rfl rfl
theorem dksX5_clearKeys_3 : cX5_clearKeys.data.toList.drop 71 = dktX5_clearKeys_3 := dk_seg dksX5_clearKeys_2 24 rfl rfl
theorem dX5_clearKeys_0 : decode cX5_clearKeys 0 = .ok (.iconst 0, 1) := dk_3 (dk_at dksX5_clearKeys_0 0 rfl rfl)
theorem dX5_clearKeys_1 : decode cX5_clearKeys 1 = .ok (.istore_n 1, 1) := dk_60 (dk_at dksX5_clearKeys_0 1 rfl rfl)
theorem dX5_clearKeys_2 : decode cX5_clearKeys 2 = .ok (.iload_n 1, 1) := dk_27 (dk_at dksX5_clearKeys_0 2 rfl rfl)
theorem dX5_clearKeys_3 : decode cX5_clearKeys 3 = .ok (.bipush 48, 2) := dk_16 48 (dk_at dksX5_clearKeys_0 3 rfl rfl)
theorem dX5_clearKeys_5 : decode cX5_clearKeys 5 = .ok (.if_icmp .ge 76, 3) := dk_162 0 76 (dk_at dksX5_clearKeys_0 5 rfl rfl)
theorem dX5_clearKeys_8 : decode cX5_clearKeys 8 = .ok (.aload_n 0, 1) := dk_42 (dk_at dksX5_clearKeys_0 8 rfl rfl)
theorem dX5_clearKeys_9 : decode cX5_clearKeys 9 = .ok (.getfield 7, 3) := dk_180 0 7 (dk_at dksX5_clearKeys_0 9 rfl rfl)
theorem dX5_clearKeys_12 : decode cX5_clearKeys 12 = .ok (.bipush 20, 2) := dk_16 20 (dk_at dksX5_clearKeys_0 12 rfl rfl)
theorem dX5_clearKeys_14 : decode cX5_clearKeys 14 = .ok (.iload_n 1, 1) := dk_27 (dk_at dksX5_clearKeys_0 14 rfl rfl)
theorem dX5_clearKeys_15 : decode cX5_clearKeys 15 = .ok (.iadd, 1) := dk_96 (dk_at dksX5_clearKeys_0 15 rfl rfl)
theorem dX5_clearKeys_16 : decode cX5_clearKeys 16 = .ok (.bipush (-5), 2) := dk_16 251 (dk_at dksX5_clearKeys_0 16 rfl rfl)
theorem dX5_clearKeys_18 : decode cX5_clearKeys 18 = .ok (.iastore, 1) := dk_79 (dk_at dksX5_clearKeys_0 18 rfl rfl)
theorem dX5_clearKeys_19 : decode cX5_clearKeys 19 = .ok (.aload_n 0, 1) := dk_42 (dk_at dksX5_clearKeys_0 19 rfl rfl)
theorem dX5_clearKeys_20 : decode cX5_clearKeys 20 = .ok (.getfield 7, 3) := dk_180 0 7 (dk_at dksX5_clearKeys_0 20 rfl rfl)
theorem dX5_clearKeys_23 : decode cX5_clearKeys 23 = .ok (.bipush 68, 2) := dk_16 68 (dk_at dksX5_clearKeys_1 0 rfl rfl)
theorem dX5_clearKeys_25 : decode cX5_clearKeys 25 = .ok (.iload_n 1, 1) := dk_27 (dk_at dksX5_clearKeys_1 2 rfl rfl)
theorem dX5_clearKeys_26 : decode cX5_clearKeys 26 = .ok (.iadd, 1) := dk_96 (dk_at dksX5_clearKeys_1 3 rfl rfl)
theorem dX5_clearKeys_27 : decode cX5_clearKeys 27 = .ok (.bipush (-5), 2) := dk_16 251 (dk_at dksX5_clearKeys_1 4 rfl rfl)
theorem dX5_clearKeys_29 : decode cX5_clearKeys 29 = .ok (.iastore, 1) := dk_79 (dk_at dksX5_clearKeys_1 6 rfl rfl)
theorem dX5_clearKeys_30 : decode cX5_clearKeys 30 = .ok (.aload_n 0, 1) := dk_42 (dk_at dksX5_clearKeys_1 7 rfl rfl)
theorem dX5_clearKeys_31 : decode cX5_clearKeys 31 = .ok (.getfield 7, 3) := dk_180 0 7 (dk_at dksX5_clearKeys_1 8 rfl rfl)
theorem dX5_clearKeys_34 : decode cX5_clearKeys 34 = .ok (.bipush 116, 2) := dk_16 116 (dk_at dksX5_clearKeys_1 11 rfl rfl)
theorem dX5_clearKeys_36 : decode cX5_clearKeys 36 = .ok (.iload_n 1, 1) := dk_27 (dk_at dksX5_clearKeys_1 13 rfl rfl)
theorem dX5_clearKeys_37 : decode cX5_clearKeys 37 = .ok (.iadd, 1) := dk_96 (dk_at dksX5_clearKeys_1 14 rfl rfl)
theorem dX5_clearKeys_38 : decode cX5_clearKeys 38 = .ok (.iconst 0, 1) := dk_3 (dk_at dksX5_clearKeys_1 15 rfl rfl)
theorem dX5_clearKeys_39 : decode cX5_clearKeys 39 = .ok (.iastore, 1) := dk_79 (dk_at dksX5_clearKeys_1 16 rfl rfl)
theorem dX5_clearKeys_40 : decode cX5_clearKeys 40 = .ok (.aload_n 0, 1) := dk_42 (dk_at dksX5_clearKeys_1 17 rfl rfl)
theorem dX5_clearKeys_41 : decode cX5_clearKeys 41 = .ok (.getfield 7, 3) := dk_180 0 7 (dk_at dksX5_clearKeys_1 18 rfl rfl)
theorem dX5_clearKeys_44 : decode cX5_clearKeys 44 = .ok (.sipush 164, 3) := dk_17 0 164 (dk_at dksX5_clearKeys_1 21 rfl rfl)
theorem dX5_clearKeys_47 : decode cX5_clearKeys 47 = .ok (.iload_n 1, 1) := dk_27 (dk_at dksX5_clearKeys_2 0 rfl rfl)
theorem dX5_clearKeys_48 : decode cX5_clearKeys 48 = .ok (.iadd, 1) := dk_96 (dk_at dksX5_clearKeys_2 1 rfl rfl)
theorem dX5_clearKeys_49 : decode cX5_clearKeys 49 = .ok (.iconst 0, 1) := dk_3 (dk_at dksX5_clearKeys_2 2 rfl rfl)
theorem dX5_clearKeys_50 : decode cX5_clearKeys 50 = .ok (.iastore, 1) := dk_79 (dk_at dksX5_clearKeys_2 3 rfl rfl)
theorem dX5_clearKeys_51 : decode cX5_clearKeys 51 = .ok (.aload_n 0, 1) := dk_42 (dk_at dksX5_clearKeys_2 4 rfl rfl)
theorem dX5_clearKeys_52 : decode cX5_clearKeys 52 = .ok (.getfield 7, 3) := dk_180 0 7 (dk_at dksX5_clearKeys_2 5 rfl rfl)
theorem dX5_clearKeys_55 : decode cX5_clearKeys 55 = .ok (.sipush 212, 3) := dk_17 0 212 (dk_at dksX5_clearKeys_2 8 rfl rfl)
theorem dX5_clearKeys_58 : decode cX5_clearKeys 58 = .ok (.iload_n 1, 1) := dk_27 (dk_at dksX5_clearKeys_2 11 rfl rfl)
theorem dX5_clearKeys_59 : decode cX5_clearKeys 59 = .ok (.iadd, 1) := dk_96 (dk_at dksX5_clearKeys_2 12 rfl rfl)
theorem dX5_clearKeys_60 : decode cX5_clearKeys 60 = .ok (.bipush (-5), 2) := dk_16 251 (dk_at dksX5_clearKeys_2 13 rfl rfl)
theorem dX5_clearKeys_62 : decode cX5_clearKeys 62 = .ok (.iastore, 1) := dk_79 (dk_at dksX5_clearKeys_2 15 rfl rfl)
theorem dX5_clearKeys_63 : decode cX5_clearKeys 63 = .ok (.aload_n 0, 1) := dk_42 (dk_at dksX5_clearKeys_2 16 rfl rfl)
theorem dX5_clearKeys_64 : decode cX5_clearKeys 64 = .ok (.getfield 7, 3) := dk_180 0 7 (dk_at dksX5_clearKeys_2 17 rfl rfl)
theorem dX5_clearKeys_67 : decode cX5_clearKeys 67 = .ok (.sipush 260, 3) := dk_17 1 4 (dk_at dksX5_clearKeys_2 20 rfl rfl)
theorem dX5_clearKeys_70 : decode cX5_clearKeys 70 = .ok (.iload_n 1, 1) := dk_27 (dk_at dksX5_clearKeys_2 23 rfl rfl)
theorem dX5_clearKeys_71 : decode cX5_clearKeys 71 = .ok (.iadd, 1) := dk_96 (dk_at dksX5_clearKeys_3 0 rfl rfl)
theorem dX5_clearKeys_72 : decode cX5_clearKeys 72 = .ok (.bipush 46, 2) := dk_16 46 (dk_at dksX5_clearKeys_3 1 rfl rfl)
theorem dX5_clearKeys_74 : decode cX5_clearKeys 74 = .ok (.iastore, 1) := dk_79 (dk_at dksX5_clearKeys_3 3 rfl rfl)
theorem dX5_clearKeys_75 : decode cX5_clearKeys 75 = .ok (.iinc 1 1, 3) := dk_132 1 1 (dk_at dksX5_clearKeys_3 4 rfl rfl)
theorem dX5_clearKeys_78 : decode cX5_clearKeys 78 = .ok (.goto (-76), 3) := dk_167 255 180 (dk_at dksX5_clearKeys_3 7 rfl rfl)
theorem dX5_clearKeys_81 : decode cX5_clearKeys 81 = .ok (.return_, 1) := dk_177 (dk_at dksX5_clearKeys_3 10 rfl rfl)
abbrev cX5_undo : ByteArray := prog_11_method_8_code
def yX5_undo : MethodName := ⟨RX5, "undo", "()I"⟩
def dkwX5_undo_4 : List UInt8 := [172]
abbrev dktX5_undo_4 : List UInt8 := dkwX5_undo_4 ++ []
def dkwX5_undo_3 : List UInt8 := [180, 0, 26, 16, 7, 42, 180, 0, 47, 104, 27, 96, 48, 81, 132, 1, 1, 167, 255, 227, 42, 180, 0, 47]
abbrev dktX5_undo_3 : List UInt8 := dkwX5_undo_3 ++ dktX5_undo_4
def dkwX5_undo_2 : List UInt8 := [96, 46, 79, 132, 1, 1, 167, 255, 225, 3, 60, 27, 16, 7, 162, 0, 29, 42, 180, 0, 22, 27, 42]
abbrev dktX5_undo_2 : List UInt8 := dkwX5_undo_2 ++ dktX5_undo_3
def dkwX5_undo_1 : List UInt8 := [17, 2, 80, 162, 0, 30, 42, 180, 0, 7, 27, 42, 180, 0, 13, 17, 2, 80, 42, 180, 0, 47, 104, 27]
abbrev dktX5_undo_1 : List UInt8 := dkwX5_undo_1 ++ dktX5_undo_2
def dkwX5_undo_0 : List UInt8 := [42, 180, 0, 47, 154, 0, 6, 16, 251, 172, 42, 89, 180, 0, 47, 4, 100, 181, 0, 47, 3, 60, 27]
abbrev dktX5_undo_0 : List UInt8 := dkwX5_undo_0 ++ dktX5_undo_1
theorem dksX5_undo_0 : cX5_undo.data.toList.drop 0 = dktX5_undo_0 := by decide +kernel
theorem dksX5_undo_1 : cX5_undo.data.toList.drop 23 = dktX5_undo_1 := dk_seg dksX5_undo_0 23 rfl rfl
theorem dksX5_undo_2 : cX5_undo.data.toList.drop 47 = dktX5_undo_2 := dk_seg dksX5_undo_1 24 rfl rfl
theorem dksX5_undo_3 : cX5_undo.data.toList.drop 70 = dktX5_undo_3 := dk_seg dksX5_undo_2 23 rfl rfl
theorem dksX5_undo_4 : cX5_undo.data.toList.drop 94 = dktX5_undo_4 := dk_seg dksX5_undo_3 24 rfl rfl
theorem dX5_undo_0 : decode cX5_undo 0 = .ok (.aload_n 0, 1) := dk_42 (dk_at dksX5_undo_0 0 rfl rfl)
theorem dX5_undo_1 : decode cX5_undo 1 = .ok (.getfield 47, 3) := dk_180 0 47 (dk_at dksX5_undo_0 1 rfl rfl)
theorem dX5_undo_4 : decode cX5_undo 4 = .ok (.ifCond .ne 6, 3) := dk_154 0 6 (dk_at dksX5_undo_0 4 rfl rfl)
theorem dX5_undo_7 : decode cX5_undo 7 = .ok (.bipush (-5), 2) := dk_16 251 (dk_at dksX5_undo_0 7 rfl rfl)
theorem dX5_undo_9 : decode cX5_undo 9 = .ok (.ireturn, 1) := dk_172 (dk_at dksX5_undo_0 9 rfl rfl)
theorem dX5_undo_10 : decode cX5_undo 10 = .ok (.aload_n 0, 1) := dk_42 (dk_at dksX5_undo_0 10 rfl rfl)
theorem dX5_undo_11 : decode cX5_undo 11 = .ok (.dup, 1) := dk_89 (dk_at dksX5_undo_0 11 rfl rfl)
theorem dX5_undo_12 : decode cX5_undo 12 = .ok (.getfield 47, 3) := dk_180 0 47 (dk_at dksX5_undo_0 12 rfl rfl)
theorem dX5_undo_15 : decode cX5_undo 15 = .ok (.iconst 1, 1) := dk_4 (dk_at dksX5_undo_0 15 rfl rfl)
theorem dX5_undo_16 : decode cX5_undo 16 = .ok (.isub, 1) := dk_100 (dk_at dksX5_undo_0 16 rfl rfl)
theorem dX5_undo_17 : decode cX5_undo 17 = .ok (.putfield 47, 3) := dk_181 0 47 (dk_at dksX5_undo_0 17 rfl rfl)
theorem dX5_undo_20 : decode cX5_undo 20 = .ok (.iconst 0, 1) := dk_3 (dk_at dksX5_undo_0 20 rfl rfl)
theorem dX5_undo_21 : decode cX5_undo 21 = .ok (.istore_n 1, 1) := dk_60 (dk_at dksX5_undo_0 21 rfl rfl)
theorem dX5_undo_22 : decode cX5_undo 22 = .ok (.iload_n 1, 1) := dk_27 (dk_at dksX5_undo_0 22 rfl rfl)
theorem dX5_undo_23 : decode cX5_undo 23 = .ok (.sipush 592, 3) := dk_17 2 80 (dk_at dksX5_undo_1 0 rfl rfl)
theorem dX5_undo_26 : decode cX5_undo 26 = .ok (.if_icmp .ge 30, 3) := dk_162 0 30 (dk_at dksX5_undo_1 3 rfl rfl)
theorem dX5_undo_29 : decode cX5_undo 29 = .ok (.aload_n 0, 1) := dk_42 (dk_at dksX5_undo_1 6 rfl rfl)
theorem dX5_undo_30 : decode cX5_undo 30 = .ok (.getfield 7, 3) := dk_180 0 7 (dk_at dksX5_undo_1 7 rfl rfl)
theorem dX5_undo_33 : decode cX5_undo 33 = .ok (.iload_n 1, 1) := dk_27 (dk_at dksX5_undo_1 10 rfl rfl)
theorem dX5_undo_34 : decode cX5_undo 34 = .ok (.aload_n 0, 1) := dk_42 (dk_at dksX5_undo_1 11 rfl rfl)
theorem dX5_undo_35 : decode cX5_undo 35 = .ok (.getfield 13, 3) := dk_180 0 13 (dk_at dksX5_undo_1 12 rfl rfl)
theorem dX5_undo_38 : decode cX5_undo 38 = .ok (.sipush 592, 3) := dk_17 2 80 (dk_at dksX5_undo_1 15 rfl rfl)
theorem dX5_undo_41 : decode cX5_undo 41 = .ok (.aload_n 0, 1) := dk_42 (dk_at dksX5_undo_1 18 rfl rfl)
theorem dX5_undo_42 : decode cX5_undo 42 = .ok (.getfield 47, 3) := dk_180 0 47 (dk_at dksX5_undo_1 19 rfl rfl)
theorem dX5_undo_45 : decode cX5_undo 45 = .ok (.imul, 1) := dk_104 (dk_at dksX5_undo_1 22 rfl rfl)
theorem dX5_undo_46 : decode cX5_undo 46 = .ok (.iload_n 1, 1) := dk_27 (dk_at dksX5_undo_1 23 rfl rfl)
theorem dX5_undo_47 : decode cX5_undo 47 = .ok (.iadd, 1) := dk_96 (dk_at dksX5_undo_2 0 rfl rfl)
theorem dX5_undo_48 : decode cX5_undo 48 = .ok (.iaload, 1) := dk_46 (dk_at dksX5_undo_2 1 rfl rfl)
theorem dX5_undo_49 : decode cX5_undo 49 = .ok (.iastore, 1) := dk_79 (dk_at dksX5_undo_2 2 rfl rfl)
theorem dX5_undo_50 : decode cX5_undo 50 = .ok (.iinc 1 1, 3) := dk_132 1 1 (dk_at dksX5_undo_2 3 rfl rfl)
theorem dX5_undo_53 : decode cX5_undo 53 = .ok (.goto (-31), 3) := dk_167 255 225 (dk_at dksX5_undo_2 6 rfl rfl)
theorem dX5_undo_56 : decode cX5_undo 56 = .ok (.iconst 0, 1) := dk_3 (dk_at dksX5_undo_2 9 rfl rfl)
theorem dX5_undo_57 : decode cX5_undo 57 = .ok (.istore_n 1, 1) := dk_60 (dk_at dksX5_undo_2 10 rfl rfl)
theorem dX5_undo_58 : decode cX5_undo 58 = .ok (.iload_n 1, 1) := dk_27 (dk_at dksX5_undo_2 11 rfl rfl)
theorem dX5_undo_59 : decode cX5_undo 59 = .ok (.bipush 7, 2) := dk_16 7 (dk_at dksX5_undo_2 12 rfl rfl)
theorem dX5_undo_61 : decode cX5_undo 61 = .ok (.if_icmp .ge 29, 3) := dk_162 0 29 (dk_at dksX5_undo_2 14 rfl rfl)
theorem dX5_undo_64 : decode cX5_undo 64 = .ok (.aload_n 0, 1) := dk_42 (dk_at dksX5_undo_2 17 rfl rfl)
theorem dX5_undo_65 : decode cX5_undo 65 = .ok (.getfield 22, 3) := dk_180 0 22 (dk_at dksX5_undo_2 18 rfl rfl)
theorem dX5_undo_68 : decode cX5_undo 68 = .ok (.iload_n 1, 1) := dk_27 (dk_at dksX5_undo_2 21 rfl rfl)
theorem dX5_undo_69 : decode cX5_undo 69 = .ok (.aload_n 0, 1) := dk_42 (dk_at dksX5_undo_2 22 rfl rfl)
theorem dX5_undo_70 : decode cX5_undo 70 = .ok (.getfield 26, 3) := dk_180 0 26 (dk_at dksX5_undo_3 0 rfl rfl)
theorem dX5_undo_73 : decode cX5_undo 73 = .ok (.bipush 7, 2) := dk_16 7 (dk_at dksX5_undo_3 3 rfl rfl)
theorem dX5_undo_75 : decode cX5_undo 75 = .ok (.aload_n 0, 1) := dk_42 (dk_at dksX5_undo_3 5 rfl rfl)
theorem dX5_undo_76 : decode cX5_undo 76 = .ok (.getfield 47, 3) := dk_180 0 47 (dk_at dksX5_undo_3 6 rfl rfl)
theorem dX5_undo_79 : decode cX5_undo 79 = .ok (.imul, 1) := dk_104 (dk_at dksX5_undo_3 9 rfl rfl)
theorem dX5_undo_80 : decode cX5_undo 80 = .ok (.iload_n 1, 1) := dk_27 (dk_at dksX5_undo_3 10 rfl rfl)
theorem dX5_undo_81 : decode cX5_undo 81 = .ok (.iadd, 1) := dk_96 (dk_at dksX5_undo_3 11 rfl rfl)
theorem dX5_undo_82 : decode cX5_undo 82 = .ok (.faload, 1) := dk_48 (dk_at dksX5_undo_3 12 rfl rfl)
theorem dX5_undo_83 : decode cX5_undo 83 = .ok (.fastore, 1) := dk_81 (dk_at dksX5_undo_3 13 rfl rfl)
theorem dX5_undo_84 : decode cX5_undo 84 = .ok (.iinc 1 1, 3) := dk_132 1 1 (dk_at dksX5_undo_3 14 rfl rfl)
theorem dX5_undo_87 : decode cX5_undo 87 = .ok (.goto (-29), 3) := dk_167 255 227 (dk_at dksX5_undo_3 17 rfl rfl)
theorem dX5_undo_90 : decode cX5_undo 90 = .ok (.aload_n 0, 1) := dk_42 (dk_at dksX5_undo_3 20 rfl rfl)
theorem dX5_undo_91 : decode cX5_undo 91 = .ok (.getfield 47, 3) := dk_180 0 47 (dk_at dksX5_undo_3 21 rfl rfl)
theorem dX5_undo_94 : decode cX5_undo 94 = .ok (.ireturn, 1) := dk_172 (dk_at dksX5_undo_4 0 rfl rfl)
abbrev cX5_keep : ByteArray := prog_11_method_9_code
def yX5_keep : MethodName := ⟨RX5, "keep", "()I"⟩
def dkwX5_keep_2 : List UInt8 := [132, 1, 1, 167, 255, 235, 42, 4, 181, 0, 57, 42, 180, 0, 7, 5, 46, 172]
abbrev dktX5_keep_2 : List UInt8 := dkwX5_keep_2 ++ []
def dkwX5_keep_1 : List UInt8 := [167, 255, 234, 3, 60, 27, 16, 7, 162, 0, 21, 42, 180, 0, 29, 27, 42, 180, 0, 22, 27, 48, 81]
abbrev dktX5_keep_1 : List UInt8 := dkwX5_keep_1 ++ dktX5_keep_2
def dkwX5_keep_0 : List UInt8 := [3, 60, 27, 17, 2, 80, 162, 0, 21, 42, 180, 0, 16, 27, 42, 180, 0, 7, 27, 46, 79, 132, 1, 1]
abbrev dktX5_keep_0 : List UInt8 := dkwX5_keep_0 ++ dktX5_keep_1
theorem dksX5_keep_0 : cX5_keep.data.toList.drop 0 = dktX5_keep_0 := by decide +kernel
theorem dksX5_keep_1 : cX5_keep.data.toList.drop 24 = dktX5_keep_1 := dk_seg dksX5_keep_0 24 rfl rfl
theorem dksX5_keep_2 : cX5_keep.data.toList.drop 47 = dktX5_keep_2 := dk_seg dksX5_keep_1 23 rfl rfl
theorem dX5_keep_0 : decode cX5_keep 0 = .ok (.iconst 0, 1) := dk_3 (dk_at dksX5_keep_0 0 rfl rfl)
theorem dX5_keep_1 : decode cX5_keep 1 = .ok (.istore_n 1, 1) := dk_60 (dk_at dksX5_keep_0 1 rfl rfl)
theorem dX5_keep_2 : decode cX5_keep 2 = .ok (.iload_n 1, 1) := dk_27 (dk_at dksX5_keep_0 2 rfl rfl)
theorem dX5_keep_3 : decode cX5_keep 3 = .ok (.sipush 592, 3) := dk_17 2 80 (dk_at dksX5_keep_0 3 rfl rfl)
theorem dX5_keep_6 : decode cX5_keep 6 = .ok (.if_icmp .ge 21, 3) := dk_162 0 21 (dk_at dksX5_keep_0 6 rfl rfl)
theorem dX5_keep_9 : decode cX5_keep 9 = .ok (.aload_n 0, 1) := dk_42 (dk_at dksX5_keep_0 9 rfl rfl)
theorem dX5_keep_10 : decode cX5_keep 10 = .ok (.getfield 16, 3) := dk_180 0 16 (dk_at dksX5_keep_0 10 rfl rfl)
theorem dX5_keep_13 : decode cX5_keep 13 = .ok (.iload_n 1, 1) := dk_27 (dk_at dksX5_keep_0 13 rfl rfl)
theorem dX5_keep_14 : decode cX5_keep 14 = .ok (.aload_n 0, 1) := dk_42 (dk_at dksX5_keep_0 14 rfl rfl)
theorem dX5_keep_15 : decode cX5_keep 15 = .ok (.getfield 7, 3) := dk_180 0 7 (dk_at dksX5_keep_0 15 rfl rfl)
theorem dX5_keep_18 : decode cX5_keep 18 = .ok (.iload_n 1, 1) := dk_27 (dk_at dksX5_keep_0 18 rfl rfl)
theorem dX5_keep_19 : decode cX5_keep 19 = .ok (.iaload, 1) := dk_46 (dk_at dksX5_keep_0 19 rfl rfl)
theorem dX5_keep_20 : decode cX5_keep 20 = .ok (.iastore, 1) := dk_79 (dk_at dksX5_keep_0 20 rfl rfl)
theorem dX5_keep_21 : decode cX5_keep 21 = .ok (.iinc 1 1, 3) := dk_132 1 1 (dk_at dksX5_keep_0 21 rfl rfl)
theorem dX5_keep_24 : decode cX5_keep 24 = .ok (.goto (-22), 3) := dk_167 255 234 (dk_at dksX5_keep_1 0 rfl rfl)
theorem dX5_keep_27 : decode cX5_keep 27 = .ok (.iconst 0, 1) := dk_3 (dk_at dksX5_keep_1 3 rfl rfl)
theorem dX5_keep_28 : decode cX5_keep 28 = .ok (.istore_n 1, 1) := dk_60 (dk_at dksX5_keep_1 4 rfl rfl)
theorem dX5_keep_29 : decode cX5_keep 29 = .ok (.iload_n 1, 1) := dk_27 (dk_at dksX5_keep_1 5 rfl rfl)
theorem dX5_keep_30 : decode cX5_keep 30 = .ok (.bipush 7, 2) := dk_16 7 (dk_at dksX5_keep_1 6 rfl rfl)
theorem dX5_keep_32 : decode cX5_keep 32 = .ok (.if_icmp .ge 21, 3) := dk_162 0 21 (dk_at dksX5_keep_1 8 rfl rfl)
theorem dX5_keep_35 : decode cX5_keep 35 = .ok (.aload_n 0, 1) := dk_42 (dk_at dksX5_keep_1 11 rfl rfl)
theorem dX5_keep_36 : decode cX5_keep 36 = .ok (.getfield 29, 3) := dk_180 0 29 (dk_at dksX5_keep_1 12 rfl rfl)
theorem dX5_keep_39 : decode cX5_keep 39 = .ok (.iload_n 1, 1) := dk_27 (dk_at dksX5_keep_1 15 rfl rfl)
theorem dX5_keep_40 : decode cX5_keep 40 = .ok (.aload_n 0, 1) := dk_42 (dk_at dksX5_keep_1 16 rfl rfl)
theorem dX5_keep_41 : decode cX5_keep 41 = .ok (.getfield 22, 3) := dk_180 0 22 (dk_at dksX5_keep_1 17 rfl rfl)
theorem dX5_keep_44 : decode cX5_keep 44 = .ok (.iload_n 1, 1) := dk_27 (dk_at dksX5_keep_1 20 rfl rfl)
theorem dX5_keep_45 : decode cX5_keep 45 = .ok (.faload, 1) := dk_48 (dk_at dksX5_keep_1 21 rfl rfl)
theorem dX5_keep_46 : decode cX5_keep 46 = .ok (.fastore, 1) := dk_81 (dk_at dksX5_keep_1 22 rfl rfl)
theorem dX5_keep_47 : decode cX5_keep 47 = .ok (.iinc 1 1, 3) := dk_132 1 1 (dk_at dksX5_keep_2 0 rfl rfl)
theorem dX5_keep_50 : decode cX5_keep 50 = .ok (.goto (-21), 3) := dk_167 255 235 (dk_at dksX5_keep_2 3 rfl rfl)
theorem dX5_keep_53 : decode cX5_keep 53 = .ok (.aload_n 0, 1) := dk_42 (dk_at dksX5_keep_2 6 rfl rfl)
theorem dX5_keep_54 : decode cX5_keep 54 = .ok (.iconst 1, 1) := dk_4 (dk_at dksX5_keep_2 7 rfl rfl)
theorem dX5_keep_55 : decode cX5_keep 55 = .ok (.putfield 57, 3) := dk_181 0 57 (dk_at dksX5_keep_2 8 rfl rfl)
theorem dX5_keep_58 : decode cX5_keep 58 = .ok (.aload_n 0, 1) := dk_42 (dk_at dksX5_keep_2 11 rfl rfl)
theorem dX5_keep_59 : decode cX5_keep 59 = .ok (.getfield 7, 3) := dk_180 0 7 (dk_at dksX5_keep_2 12 rfl rfl)
theorem dX5_keep_62 : decode cX5_keep 62 = .ok (.iconst 2, 1) := dk_5 (dk_at dksX5_keep_2 15 rfl rfl)
theorem dX5_keep_63 : decode cX5_keep 63 = .ok (.iaload, 1) := dk_46 (dk_at dksX5_keep_2 16 rfl rfl)
theorem dX5_keep_64 : decode cX5_keep 64 = .ok (.ireturn, 1) := dk_172 (dk_at dksX5_keep_2 17 rfl rfl)
abbrev cX5_restore : ByteArray := prog_11_method_10_code
def yX5_restore : MethodName := ⟨RX5, "restore", "()I"⟩
def dkwX5_restore_3 : List UInt8 := [180, 0, 7, 5, 46, 172]
abbrev dktX5_restore_3 : List UInt8 := dkwX5_restore_3 ++ []
def dkwX5_restore_2 : List UInt8 := [162, 0, 21, 42, 180, 0, 22, 27, 42, 180, 0, 29, 27, 48, 81, 132, 1, 1, 167, 255, 235, 42]
abbrev dktX5_restore_2 : List UInt8 := dkwX5_restore_2 ++ dktX5_restore_3
def dkwX5_restore_1 : List UInt8 := [180, 0, 7, 27, 42, 180, 0, 16, 27, 46, 79, 132, 1, 1, 167, 255, 234, 3, 60, 27, 16, 7]
abbrev dktX5_restore_1 : List UInt8 := dkwX5_restore_1 ++ dktX5_restore_2
def dkwX5_restore_0 : List UInt8 := [42, 180, 0, 57, 154, 0, 6, 16, 251, 172, 42, 182, 0, 61, 3, 60, 27, 17, 2, 80, 162, 0, 21, 42]
abbrev dktX5_restore_0 : List UInt8 := dkwX5_restore_0 ++ dktX5_restore_1
theorem dksX5_restore_0 : cX5_restore.data.toList.drop 0 = dktX5_restore_0 := by decide +kernel
theorem dksX5_restore_1 : cX5_restore.data.toList.drop 24 = dktX5_restore_1 := dk_seg dksX5_restore_0 24 rfl rfl
theorem dksX5_restore_2 : cX5_restore.data.toList.drop 46 = dktX5_restore_2 := dk_seg dksX5_restore_1 22 rfl rfl
theorem dksX5_restore_3 : cX5_restore.data.toList.drop 68 = dktX5_restore_3 := dk_seg dksX5_restore_2 22 rfl rfl
theorem dX5_restore_0 : decode cX5_restore 0 = .ok (.aload_n 0, 1) := dk_42 (dk_at dksX5_restore_0 0 rfl rfl)
theorem dX5_restore_1 : decode cX5_restore 1 = .ok (.getfield 57, 3) := dk_180 0 57 (dk_at dksX5_restore_0 1 rfl rfl)
theorem dX5_restore_4 : decode cX5_restore 4 = .ok (.ifCond .ne 6, 3) := dk_154 0 6 (dk_at dksX5_restore_0 4 rfl rfl)
theorem dX5_restore_7 : decode cX5_restore 7 = .ok (.bipush (-5), 2) := dk_16 251 (dk_at dksX5_restore_0 7 rfl rfl)
theorem dX5_restore_9 : decode cX5_restore 9 = .ok (.ireturn, 1) := dk_172 (dk_at dksX5_restore_0 9 rfl rfl)
theorem dX5_restore_10 : decode cX5_restore 10 = .ok (.aload_n 0, 1) := dk_42 (dk_at dksX5_restore_0 10 rfl rfl)
theorem dX5_restore_11 : decode cX5_restore 11 = .ok (.invokevirtual 61, 3) := dk_182 0 61 (dk_at dksX5_restore_0 11 rfl rfl)
theorem dX5_restore_14 : decode cX5_restore 14 = .ok (.iconst 0, 1) := dk_3 (dk_at dksX5_restore_0 14 rfl rfl)
theorem dX5_restore_15 : decode cX5_restore 15 = .ok (.istore_n 1, 1) := dk_60 (dk_at dksX5_restore_0 15 rfl rfl)
theorem dX5_restore_16 : decode cX5_restore 16 = .ok (.iload_n 1, 1) := dk_27 (dk_at dksX5_restore_0 16 rfl rfl)
theorem dX5_restore_17 : decode cX5_restore 17 = .ok (.sipush 592, 3) := dk_17 2 80 (dk_at dksX5_restore_0 17 rfl rfl)
theorem dX5_restore_20 : decode cX5_restore 20 = .ok (.if_icmp .ge 21, 3) := dk_162 0 21 (dk_at dksX5_restore_0 20 rfl rfl)
theorem dX5_restore_23 : decode cX5_restore 23 = .ok (.aload_n 0, 1) := dk_42 (dk_at dksX5_restore_0 23 rfl rfl)
theorem dX5_restore_24 : decode cX5_restore 24 = .ok (.getfield 7, 3) := dk_180 0 7 (dk_at dksX5_restore_1 0 rfl rfl)
theorem dX5_restore_27 : decode cX5_restore 27 = .ok (.iload_n 1, 1) := dk_27 (dk_at dksX5_restore_1 3 rfl rfl)
theorem dX5_restore_28 : decode cX5_restore 28 = .ok (.aload_n 0, 1) := dk_42 (dk_at dksX5_restore_1 4 rfl rfl)
theorem dX5_restore_29 : decode cX5_restore 29 = .ok (.getfield 16, 3) := dk_180 0 16 (dk_at dksX5_restore_1 5 rfl rfl)
theorem dX5_restore_32 : decode cX5_restore 32 = .ok (.iload_n 1, 1) := dk_27 (dk_at dksX5_restore_1 8 rfl rfl)
theorem dX5_restore_33 : decode cX5_restore 33 = .ok (.iaload, 1) := dk_46 (dk_at dksX5_restore_1 9 rfl rfl)
theorem dX5_restore_34 : decode cX5_restore 34 = .ok (.iastore, 1) := dk_79 (dk_at dksX5_restore_1 10 rfl rfl)
theorem dX5_restore_35 : decode cX5_restore 35 = .ok (.iinc 1 1, 3) := dk_132 1 1 (dk_at dksX5_restore_1 11 rfl rfl)
theorem dX5_restore_38 : decode cX5_restore 38 = .ok (.goto (-22), 3) := dk_167 255 234 (dk_at dksX5_restore_1 14 rfl rfl)
theorem dX5_restore_41 : decode cX5_restore 41 = .ok (.iconst 0, 1) := dk_3 (dk_at dksX5_restore_1 17 rfl rfl)
theorem dX5_restore_42 : decode cX5_restore 42 = .ok (.istore_n 1, 1) := dk_60 (dk_at dksX5_restore_1 18 rfl rfl)
theorem dX5_restore_43 : decode cX5_restore 43 = .ok (.iload_n 1, 1) := dk_27 (dk_at dksX5_restore_1 19 rfl rfl)
theorem dX5_restore_44 : decode cX5_restore 44 = .ok (.bipush 7, 2) := dk_16 7 (dk_at dksX5_restore_1 20 rfl rfl)
theorem dX5_restore_46 : decode cX5_restore 46 = .ok (.if_icmp .ge 21, 3) := dk_162 0 21 (dk_at dksX5_restore_2 0 rfl rfl)
theorem dX5_restore_49 : decode cX5_restore 49 = .ok (.aload_n 0, 1) := dk_42 (dk_at dksX5_restore_2 3 rfl rfl)
theorem dX5_restore_50 : decode cX5_restore 50 = .ok (.getfield 22, 3) := dk_180 0 22 (dk_at dksX5_restore_2 4 rfl rfl)
theorem dX5_restore_53 : decode cX5_restore 53 = .ok (.iload_n 1, 1) := dk_27 (dk_at dksX5_restore_2 7 rfl rfl)
theorem dX5_restore_54 : decode cX5_restore 54 = .ok (.aload_n 0, 1) := dk_42 (dk_at dksX5_restore_2 8 rfl rfl)
theorem dX5_restore_55 : decode cX5_restore 55 = .ok (.getfield 29, 3) := dk_180 0 29 (dk_at dksX5_restore_2 9 rfl rfl)
theorem dX5_restore_58 : decode cX5_restore 58 = .ok (.iload_n 1, 1) := dk_27 (dk_at dksX5_restore_2 12 rfl rfl)
theorem dX5_restore_59 : decode cX5_restore 59 = .ok (.faload, 1) := dk_48 (dk_at dksX5_restore_2 13 rfl rfl)
theorem dX5_restore_60 : decode cX5_restore 60 = .ok (.fastore, 1) := dk_81 (dk_at dksX5_restore_2 14 rfl rfl)
theorem dX5_restore_61 : decode cX5_restore 61 = .ok (.iinc 1 1, 3) := dk_132 1 1 (dk_at dksX5_restore_2 15 rfl rfl)
theorem dX5_restore_64 : decode cX5_restore 64 = .ok (.goto (-21), 3) := dk_167 255 235 (dk_at dksX5_restore_2 18 rfl rfl)
theorem dX5_restore_67 : decode cX5_restore 67 = .ok (.aload_n 0, 1) := dk_42 (dk_at dksX5_restore_2 21 rfl rfl)
theorem dX5_restore_68 : decode cX5_restore 68 = .ok (.getfield 7, 3) := dk_180 0 7 (dk_at dksX5_restore_3 0 rfl rfl)
theorem dX5_restore_71 : decode cX5_restore 71 = .ok (.iconst 2, 1) := dk_5 (dk_at dksX5_restore_3 3 rfl rfl)
theorem dX5_restore_72 : decode cX5_restore 72 = .ok (.iaload, 1) := dk_46 (dk_at dksX5_restore_3 4 rfl rfl)
theorem dX5_restore_73 : decode cX5_restore 73 = .ok (.ireturn, 1) := dk_172 (dk_at dksX5_restore_3 5 rfl rfl)
abbrev cX5_begin : ByteArray := prog_11_method_7_code
def yX5_begin : MethodName := ⟨RX5, "begin", "()V"⟩
def dkwX5_begin_0 : List UInt8 := [42, 182, 0, 51, 42, 182, 0, 54, 177]
abbrev dktX5_begin_0 : List UInt8 := dkwX5_begin_0 ++ []
theorem dksX5_begin_0 : cX5_begin.data.toList.drop 0 = dktX5_begin_0 := by decide +kernel
theorem dX5_begin_0 : decode cX5_begin 0 = .ok (.aload_n 0, 1) := dk_42 (dk_at dksX5_begin_0 0 rfl rfl)
theorem dX5_begin_1 : decode cX5_begin 1 = .ok (.invokevirtual 51, 3) := dk_182 0 51 (dk_at dksX5_begin_0 1 rfl rfl)
theorem dX5_begin_4 : decode cX5_begin 4 = .ok (.aload_n 0, 1) := dk_42 (dk_at dksX5_begin_0 4 rfl rfl)
theorem dX5_begin_5 : decode cX5_begin 5 = .ok (.invokevirtual 54, 3) := dk_182 0 54 (dk_at dksX5_begin_0 5 rfl rfl)
theorem dX5_begin_8 : decode cX5_begin 8 = .ok (.return_, 1) := dk_177 (dk_at dksX5_begin_0 8 rfl rfl)
abbrev cX5_remember : ByteArray := prog_11_method_4_code
def yX5_remember : MethodName := ⟨RX5, "remember", "()V"⟩
def dkwX5_remember_2 : List UInt8 := [132, 1, 1, 167, 255, 235, 177]
abbrev dktX5_remember_2 : List UInt8 := dkwX5_remember_2 ++ []
def dkwX5_remember_1 : List UInt8 := [167, 255, 234, 3, 60, 27, 16, 7, 162, 0, 21, 42, 180, 0, 32, 27, 42, 180, 0, 22, 27, 48, 81]
abbrev dktX5_remember_1 : List UInt8 := dkwX5_remember_1 ++ dktX5_remember_2
def dkwX5_remember_0 : List UInt8 := [3, 60, 27, 17, 2, 80, 162, 0, 21, 42, 180, 0, 19, 27, 42, 180, 0, 7, 27, 46, 79, 132, 1, 1]
abbrev dktX5_remember_0 : List UInt8 := dkwX5_remember_0 ++ dktX5_remember_1
theorem dksX5_remember_0 : cX5_remember.data.toList.drop 0 = dktX5_remember_0 := by decide +kernel
theorem dksX5_remember_1 : cX5_remember.data.toList.drop 24 = dktX5_remember_1 := dk_seg dksX5_remember_0 24 rfl rfl
theorem dksX5_remember_2 : cX5_remember.data.toList.drop 47 = dktX5_remember_2 := dk_seg dksX5_remember_1 23 rfl rfl
theorem dX5_remember_0 : decode cX5_remember 0 = .ok (.iconst 0, 1) := dk_3 (dk_at dksX5_remember_0 0 rfl rfl)
theorem dX5_remember_1 : decode cX5_remember 1 = .ok (.istore_n 1, 1) := dk_60 (dk_at dksX5_remember_0 1 rfl rfl)
theorem dX5_remember_2 : decode cX5_remember 2 = .ok (.iload_n 1, 1) := dk_27 (dk_at dksX5_remember_0 2 rfl rfl)
theorem dX5_remember_3 : decode cX5_remember 3 = .ok (.sipush 592, 3) := dk_17 2 80 (dk_at dksX5_remember_0 3 rfl rfl)
theorem dX5_remember_6 : decode cX5_remember 6 = .ok (.if_icmp .ge 21, 3) := dk_162 0 21 (dk_at dksX5_remember_0 6 rfl rfl)
theorem dX5_remember_9 : decode cX5_remember 9 = .ok (.aload_n 0, 1) := dk_42 (dk_at dksX5_remember_0 9 rfl rfl)
theorem dX5_remember_10 : decode cX5_remember 10 = .ok (.getfield 19, 3) := dk_180 0 19 (dk_at dksX5_remember_0 10 rfl rfl)
theorem dX5_remember_13 : decode cX5_remember 13 = .ok (.iload_n 1, 1) := dk_27 (dk_at dksX5_remember_0 13 rfl rfl)
theorem dX5_remember_14 : decode cX5_remember 14 = .ok (.aload_n 0, 1) := dk_42 (dk_at dksX5_remember_0 14 rfl rfl)
theorem dX5_remember_15 : decode cX5_remember 15 = .ok (.getfield 7, 3) := dk_180 0 7 (dk_at dksX5_remember_0 15 rfl rfl)
theorem dX5_remember_18 : decode cX5_remember 18 = .ok (.iload_n 1, 1) := dk_27 (dk_at dksX5_remember_0 18 rfl rfl)
theorem dX5_remember_19 : decode cX5_remember 19 = .ok (.iaload, 1) := dk_46 (dk_at dksX5_remember_0 19 rfl rfl)
theorem dX5_remember_20 : decode cX5_remember 20 = .ok (.iastore, 1) := dk_79 (dk_at dksX5_remember_0 20 rfl rfl)
theorem dX5_remember_21 : decode cX5_remember 21 = .ok (.iinc 1 1, 3) := dk_132 1 1 (dk_at dksX5_remember_0 21 rfl rfl)
theorem dX5_remember_24 : decode cX5_remember 24 = .ok (.goto (-22), 3) := dk_167 255 234 (dk_at dksX5_remember_1 0 rfl rfl)
theorem dX5_remember_27 : decode cX5_remember 27 = .ok (.iconst 0, 1) := dk_3 (dk_at dksX5_remember_1 3 rfl rfl)
theorem dX5_remember_28 : decode cX5_remember 28 = .ok (.istore_n 1, 1) := dk_60 (dk_at dksX5_remember_1 4 rfl rfl)
theorem dX5_remember_29 : decode cX5_remember 29 = .ok (.iload_n 1, 1) := dk_27 (dk_at dksX5_remember_1 5 rfl rfl)
theorem dX5_remember_30 : decode cX5_remember 30 = .ok (.bipush 7, 2) := dk_16 7 (dk_at dksX5_remember_1 6 rfl rfl)
theorem dX5_remember_32 : decode cX5_remember 32 = .ok (.if_icmp .ge 21, 3) := dk_162 0 21 (dk_at dksX5_remember_1 8 rfl rfl)
theorem dX5_remember_35 : decode cX5_remember 35 = .ok (.aload_n 0, 1) := dk_42 (dk_at dksX5_remember_1 11 rfl rfl)
theorem dX5_remember_36 : decode cX5_remember 36 = .ok (.getfield 32, 3) := dk_180 0 32 (dk_at dksX5_remember_1 12 rfl rfl)
theorem dX5_remember_39 : decode cX5_remember 39 = .ok (.iload_n 1, 1) := dk_27 (dk_at dksX5_remember_1 15 rfl rfl)
theorem dX5_remember_40 : decode cX5_remember 40 = .ok (.aload_n 0, 1) := dk_42 (dk_at dksX5_remember_1 16 rfl rfl)
theorem dX5_remember_41 : decode cX5_remember 41 = .ok (.getfield 22, 3) := dk_180 0 22 (dk_at dksX5_remember_1 17 rfl rfl)
theorem dX5_remember_44 : decode cX5_remember 44 = .ok (.iload_n 1, 1) := dk_27 (dk_at dksX5_remember_1 20 rfl rfl)
theorem dX5_remember_45 : decode cX5_remember 45 = .ok (.faload, 1) := dk_48 (dk_at dksX5_remember_1 21 rfl rfl)
theorem dX5_remember_46 : decode cX5_remember 46 = .ok (.fastore, 1) := dk_81 (dk_at dksX5_remember_1 22 rfl rfl)
theorem dX5_remember_47 : decode cX5_remember 47 = .ok (.iinc 1 1, 3) := dk_132 1 1 (dk_at dksX5_remember_2 0 rfl rfl)
theorem dX5_remember_50 : decode cX5_remember 50 = .ok (.goto (-21), 3) := dk_167 255 235 (dk_at dksX5_remember_2 3 rfl rfl)
theorem dX5_remember_53 : decode cX5_remember 53 = .ok (.return_, 1) := dk_177 (dk_at dksX5_remember_2 6 rfl rfl)
abbrev cX5_record : ByteArray := prog_11_method_6_code
def yX5_record : MethodName := ⟨RX5, "record", "()V"⟩
def dkwX5_record_6 : List UInt8 := [81, 132, 1, 1, 167, 255, 227, 42, 89, 180, 0, 47, 4, 96, 181, 0, 47, 177]
abbrev dktX5_record_6 : List UInt8 := dkwX5_record_6 ++ []
def dkwX5_record_5 : List UInt8 := [16, 7, 162, 0, 29, 42, 180, 0, 26, 16, 7, 42, 180, 0, 47, 104, 27, 96, 42, 180, 0, 32, 27, 48]
abbrev dktX5_record_5 : List UInt8 := dkwX5_record_5 ++ dktX5_record_6
def dkwX5_record_4 : List UInt8 := [42, 180, 0, 47, 104, 27, 96, 42, 180, 0, 19, 27, 46, 79, 132, 1, 1, 167, 255, 225, 3, 60, 27]
abbrev dktX5_record_4 : List UInt8 := dkwX5_record_4 ++ dktX5_record_5
def dkwX5_record_3 : List UInt8 := [180, 0, 47, 4, 100, 181, 0, 47, 3, 60, 27, 17, 2, 80, 162, 0, 30, 42, 180, 0, 13, 17, 2, 80]
abbrev dktX5_record_3 : List UInt8 := dkwX5_record_3 ++ dktX5_record_4
def dkwX5_record_2 : List UInt8 := [42, 180, 0, 26, 27, 42, 180, 0, 26, 16, 7, 27, 96, 48, 81, 132, 1, 1, 167, 255, 232, 42, 89]
abbrev dktX5_record_2 : List UInt8 := dkwX5_record_2 ++ dktX5_record_3
def dkwX5_record_1 : List UInt8 := [180, 0, 13, 17, 2, 80, 27, 96, 46, 79, 132, 1, 1, 167, 255, 230, 3, 60, 27, 16, 21, 162, 0, 24]
abbrev dktX5_record_1 : List UInt8 := dkwX5_record_1 ++ dktX5_record_2
def dkwX5_record_0 : List UInt8 := [42, 180, 0, 47, 7, 160, 0, 73, 3, 60, 27, 17, 6, 240, 162, 0, 25, 42, 180, 0, 13, 27, 42]
abbrev dktX5_record_0 : List UInt8 := dkwX5_record_0 ++ dktX5_record_1
theorem dksX5_record_0 : cX5_record.data.toList.drop 0 = dktX5_record_0 := by decide +kernel
theorem dksX5_record_1 : cX5_record.data.toList.drop 23 = dktX5_record_1 := dk_seg dksX5_record_0 23 rfl rfl
theorem dksX5_record_2 : cX5_record.data.toList.drop 47 = dktX5_record_2 := dk_seg dksX5_record_1 24 rfl rfl
theorem dksX5_record_3 : cX5_record.data.toList.drop 70 = dktX5_record_3 := dk_seg dksX5_record_2 23 rfl rfl
theorem dksX5_record_4 : cX5_record.data.toList.drop 94 = dktX5_record_4 := dk_seg dksX5_record_3 24 rfl rfl
theorem dksX5_record_5 : cX5_record.data.toList.drop 117 = dktX5_record_5 := dk_seg dksX5_record_4 23 rfl rfl
theorem dksX5_record_6 : cX5_record.data.toList.drop 141 = dktX5_record_6 := dk_seg dksX5_record_5 24 rfl rfl
theorem dX5_record_0 : decode cX5_record 0 = .ok (.aload_n 0, 1) := dk_42 (dk_at dksX5_record_0 0 rfl rfl)
theorem dX5_record_1 : decode cX5_record 1 = .ok (.getfield 47, 3) := dk_180 0 47 (dk_at dksX5_record_0 1 rfl rfl)
theorem dX5_record_4 : decode cX5_record 4 = .ok (.iconst 4, 1) := dk_7 (dk_at dksX5_record_0 4 rfl rfl)
theorem dX5_record_5 : decode cX5_record 5 = .ok (.if_icmp .ne 73, 3) := dk_160 0 73 (dk_at dksX5_record_0 5 rfl rfl)
theorem dX5_record_8 : decode cX5_record 8 = .ok (.iconst 0, 1) := dk_3 (dk_at dksX5_record_0 8 rfl rfl)
theorem dX5_record_9 : decode cX5_record 9 = .ok (.istore_n 1, 1) := dk_60 (dk_at dksX5_record_0 9 rfl rfl)
theorem dX5_record_10 : decode cX5_record 10 = .ok (.iload_n 1, 1) := dk_27 (dk_at dksX5_record_0 10 rfl rfl)
theorem dX5_record_11 : decode cX5_record 11 = .ok (.sipush 1776, 3) := dk_17 6 240 (dk_at dksX5_record_0 11 rfl rfl)
theorem dX5_record_14 : decode cX5_record 14 = .ok (.if_icmp .ge 25, 3) := dk_162 0 25 (dk_at dksX5_record_0 14 rfl rfl)
theorem dX5_record_17 : decode cX5_record 17 = .ok (.aload_n 0, 1) := dk_42 (dk_at dksX5_record_0 17 rfl rfl)
theorem dX5_record_18 : decode cX5_record 18 = .ok (.getfield 13, 3) := dk_180 0 13 (dk_at dksX5_record_0 18 rfl rfl)
theorem dX5_record_21 : decode cX5_record 21 = .ok (.iload_n 1, 1) := dk_27 (dk_at dksX5_record_0 21 rfl rfl)
theorem dX5_record_22 : decode cX5_record 22 = .ok (.aload_n 0, 1) := dk_42 (dk_at dksX5_record_0 22 rfl rfl)
theorem dX5_record_23 : decode cX5_record 23 = .ok (.getfield 13, 3) := dk_180 0 13 (dk_at dksX5_record_1 0 rfl rfl)
theorem dX5_record_26 : decode cX5_record 26 = .ok (.sipush 592, 3) := dk_17 2 80 (dk_at dksX5_record_1 3 rfl rfl)
theorem dX5_record_29 : decode cX5_record 29 = .ok (.iload_n 1, 1) := dk_27 (dk_at dksX5_record_1 6 rfl rfl)
theorem dX5_record_30 : decode cX5_record 30 = .ok (.iadd, 1) := dk_96 (dk_at dksX5_record_1 7 rfl rfl)
theorem dX5_record_31 : decode cX5_record 31 = .ok (.iaload, 1) := dk_46 (dk_at dksX5_record_1 8 rfl rfl)
theorem dX5_record_32 : decode cX5_record 32 = .ok (.iastore, 1) := dk_79 (dk_at dksX5_record_1 9 rfl rfl)
theorem dX5_record_33 : decode cX5_record 33 = .ok (.iinc 1 1, 3) := dk_132 1 1 (dk_at dksX5_record_1 10 rfl rfl)
theorem dX5_record_36 : decode cX5_record 36 = .ok (.goto (-26), 3) := dk_167 255 230 (dk_at dksX5_record_1 13 rfl rfl)
theorem dX5_record_39 : decode cX5_record 39 = .ok (.iconst 0, 1) := dk_3 (dk_at dksX5_record_1 16 rfl rfl)
theorem dX5_record_40 : decode cX5_record 40 = .ok (.istore_n 1, 1) := dk_60 (dk_at dksX5_record_1 17 rfl rfl)
theorem dX5_record_41 : decode cX5_record 41 = .ok (.iload_n 1, 1) := dk_27 (dk_at dksX5_record_1 18 rfl rfl)
theorem dX5_record_42 : decode cX5_record 42 = .ok (.bipush 21, 2) := dk_16 21 (dk_at dksX5_record_1 19 rfl rfl)
theorem dX5_record_44 : decode cX5_record 44 = .ok (.if_icmp .ge 24, 3) := dk_162 0 24 (dk_at dksX5_record_1 21 rfl rfl)
theorem dX5_record_47 : decode cX5_record 47 = .ok (.aload_n 0, 1) := dk_42 (dk_at dksX5_record_2 0 rfl rfl)
theorem dX5_record_48 : decode cX5_record 48 = .ok (.getfield 26, 3) := dk_180 0 26 (dk_at dksX5_record_2 1 rfl rfl)
theorem dX5_record_51 : decode cX5_record 51 = .ok (.iload_n 1, 1) := dk_27 (dk_at dksX5_record_2 4 rfl rfl)
theorem dX5_record_52 : decode cX5_record 52 = .ok (.aload_n 0, 1) := dk_42 (dk_at dksX5_record_2 5 rfl rfl)
theorem dX5_record_53 : decode cX5_record 53 = .ok (.getfield 26, 3) := dk_180 0 26 (dk_at dksX5_record_2 6 rfl rfl)
theorem dX5_record_56 : decode cX5_record 56 = .ok (.bipush 7, 2) := dk_16 7 (dk_at dksX5_record_2 9 rfl rfl)
theorem dX5_record_58 : decode cX5_record 58 = .ok (.iload_n 1, 1) := dk_27 (dk_at dksX5_record_2 11 rfl rfl)
theorem dX5_record_59 : decode cX5_record 59 = .ok (.iadd, 1) := dk_96 (dk_at dksX5_record_2 12 rfl rfl)
theorem dX5_record_60 : decode cX5_record 60 = .ok (.faload, 1) := dk_48 (dk_at dksX5_record_2 13 rfl rfl)
theorem dX5_record_61 : decode cX5_record 61 = .ok (.fastore, 1) := dk_81 (dk_at dksX5_record_2 14 rfl rfl)
theorem dX5_record_62 : decode cX5_record 62 = .ok (.iinc 1 1, 3) := dk_132 1 1 (dk_at dksX5_record_2 15 rfl rfl)
theorem dX5_record_65 : decode cX5_record 65 = .ok (.goto (-24), 3) := dk_167 255 232 (dk_at dksX5_record_2 18 rfl rfl)
theorem dX5_record_68 : decode cX5_record 68 = .ok (.aload_n 0, 1) := dk_42 (dk_at dksX5_record_2 21 rfl rfl)
theorem dX5_record_69 : decode cX5_record 69 = .ok (.dup, 1) := dk_89 (dk_at dksX5_record_2 22 rfl rfl)
theorem dX5_record_70 : decode cX5_record 70 = .ok (.getfield 47, 3) := dk_180 0 47 (dk_at dksX5_record_3 0 rfl rfl)
theorem dX5_record_73 : decode cX5_record 73 = .ok (.iconst 1, 1) := dk_4 (dk_at dksX5_record_3 3 rfl rfl)
theorem dX5_record_74 : decode cX5_record 74 = .ok (.isub, 1) := dk_100 (dk_at dksX5_record_3 4 rfl rfl)
theorem dX5_record_75 : decode cX5_record 75 = .ok (.putfield 47, 3) := dk_181 0 47 (dk_at dksX5_record_3 5 rfl rfl)
theorem dX5_record_78 : decode cX5_record 78 = .ok (.iconst 0, 1) := dk_3 (dk_at dksX5_record_3 8 rfl rfl)
theorem dX5_record_79 : decode cX5_record 79 = .ok (.istore_n 1, 1) := dk_60 (dk_at dksX5_record_3 9 rfl rfl)
theorem dX5_record_80 : decode cX5_record 80 = .ok (.iload_n 1, 1) := dk_27 (dk_at dksX5_record_3 10 rfl rfl)
theorem dX5_record_81 : decode cX5_record 81 = .ok (.sipush 592, 3) := dk_17 2 80 (dk_at dksX5_record_3 11 rfl rfl)
theorem dX5_record_84 : decode cX5_record 84 = .ok (.if_icmp .ge 30, 3) := dk_162 0 30 (dk_at dksX5_record_3 14 rfl rfl)
theorem dX5_record_87 : decode cX5_record 87 = .ok (.aload_n 0, 1) := dk_42 (dk_at dksX5_record_3 17 rfl rfl)
theorem dX5_record_88 : decode cX5_record 88 = .ok (.getfield 13, 3) := dk_180 0 13 (dk_at dksX5_record_3 18 rfl rfl)
theorem dX5_record_91 : decode cX5_record 91 = .ok (.sipush 592, 3) := dk_17 2 80 (dk_at dksX5_record_3 21 rfl rfl)
theorem dX5_record_94 : decode cX5_record 94 = .ok (.aload_n 0, 1) := dk_42 (dk_at dksX5_record_4 0 rfl rfl)
theorem dX5_record_95 : decode cX5_record 95 = .ok (.getfield 47, 3) := dk_180 0 47 (dk_at dksX5_record_4 1 rfl rfl)
theorem dX5_record_98 : decode cX5_record 98 = .ok (.imul, 1) := dk_104 (dk_at dksX5_record_4 4 rfl rfl)
theorem dX5_record_99 : decode cX5_record 99 = .ok (.iload_n 1, 1) := dk_27 (dk_at dksX5_record_4 5 rfl rfl)
theorem dX5_record_100 : decode cX5_record 100 = .ok (.iadd, 1) := dk_96 (dk_at dksX5_record_4 6 rfl rfl)
theorem dX5_record_101 : decode cX5_record 101 = .ok (.aload_n 0, 1) := dk_42 (dk_at dksX5_record_4 7 rfl rfl)
theorem dX5_record_102 : decode cX5_record 102 = .ok (.getfield 19, 3) := dk_180 0 19 (dk_at dksX5_record_4 8 rfl rfl)
theorem dX5_record_105 : decode cX5_record 105 = .ok (.iload_n 1, 1) := dk_27 (dk_at dksX5_record_4 11 rfl rfl)
theorem dX5_record_106 : decode cX5_record 106 = .ok (.iaload, 1) := dk_46 (dk_at dksX5_record_4 12 rfl rfl)
theorem dX5_record_107 : decode cX5_record 107 = .ok (.iastore, 1) := dk_79 (dk_at dksX5_record_4 13 rfl rfl)
theorem dX5_record_108 : decode cX5_record 108 = .ok (.iinc 1 1, 3) := dk_132 1 1 (dk_at dksX5_record_4 14 rfl rfl)
theorem dX5_record_111 : decode cX5_record 111 = .ok (.goto (-31), 3) := dk_167 255 225 (dk_at dksX5_record_4 17 rfl rfl)
theorem dX5_record_114 : decode cX5_record 114 = .ok (.iconst 0, 1) := dk_3 (dk_at dksX5_record_4 20 rfl rfl)
theorem dX5_record_115 : decode cX5_record 115 = .ok (.istore_n 1, 1) := dk_60 (dk_at dksX5_record_4 21 rfl rfl)
theorem dX5_record_116 : decode cX5_record 116 = .ok (.iload_n 1, 1) := dk_27 (dk_at dksX5_record_4 22 rfl rfl)
theorem dX5_record_117 : decode cX5_record 117 = .ok (.bipush 7, 2) := dk_16 7 (dk_at dksX5_record_5 0 rfl rfl)
theorem dX5_record_119 : decode cX5_record 119 = .ok (.if_icmp .ge 29, 3) := dk_162 0 29 (dk_at dksX5_record_5 2 rfl rfl)
theorem dX5_record_122 : decode cX5_record 122 = .ok (.aload_n 0, 1) := dk_42 (dk_at dksX5_record_5 5 rfl rfl)
theorem dX5_record_123 : decode cX5_record 123 = .ok (.getfield 26, 3) := dk_180 0 26 (dk_at dksX5_record_5 6 rfl rfl)
theorem dX5_record_126 : decode cX5_record 126 = .ok (.bipush 7, 2) := dk_16 7 (dk_at dksX5_record_5 9 rfl rfl)
theorem dX5_record_128 : decode cX5_record 128 = .ok (.aload_n 0, 1) := dk_42 (dk_at dksX5_record_5 11 rfl rfl)
theorem dX5_record_129 : decode cX5_record 129 = .ok (.getfield 47, 3) := dk_180 0 47 (dk_at dksX5_record_5 12 rfl rfl)
theorem dX5_record_132 : decode cX5_record 132 = .ok (.imul, 1) := dk_104 (dk_at dksX5_record_5 15 rfl rfl)
theorem dX5_record_133 : decode cX5_record 133 = .ok (.iload_n 1, 1) := dk_27 (dk_at dksX5_record_5 16 rfl rfl)
theorem dX5_record_134 : decode cX5_record 134 = .ok (.iadd, 1) := dk_96 (dk_at dksX5_record_5 17 rfl rfl)
theorem dX5_record_135 : decode cX5_record 135 = .ok (.aload_n 0, 1) := dk_42 (dk_at dksX5_record_5 18 rfl rfl)
theorem dX5_record_136 : decode cX5_record 136 = .ok (.getfield 32, 3) := dk_180 0 32 (dk_at dksX5_record_5 19 rfl rfl)
theorem dX5_record_139 : decode cX5_record 139 = .ok (.iload_n 1, 1) := dk_27 (dk_at dksX5_record_5 22 rfl rfl)
theorem dX5_record_140 : decode cX5_record 140 = .ok (.faload, 1) := dk_48 (dk_at dksX5_record_5 23 rfl rfl)
theorem dX5_record_141 : decode cX5_record 141 = .ok (.fastore, 1) := dk_81 (dk_at dksX5_record_6 0 rfl rfl)
theorem dX5_record_142 : decode cX5_record 142 = .ok (.iinc 1 1, 3) := dk_132 1 1 (dk_at dksX5_record_6 1 rfl rfl)
theorem dX5_record_145 : decode cX5_record 145 = .ok (.goto (-29), 3) := dk_167 255 227 (dk_at dksX5_record_6 4 rfl rfl)
theorem dX5_record_148 : decode cX5_record 148 = .ok (.aload_n 0, 1) := dk_42 (dk_at dksX5_record_6 7 rfl rfl)
theorem dX5_record_149 : decode cX5_record 149 = .ok (.dup, 1) := dk_89 (dk_at dksX5_record_6 8 rfl rfl)
theorem dX5_record_150 : decode cX5_record 150 = .ok (.getfield 47, 3) := dk_180 0 47 (dk_at dksX5_record_6 9 rfl rfl)
theorem dX5_record_153 : decode cX5_record 153 = .ok (.iconst 1, 1) := dk_4 (dk_at dksX5_record_6 12 rfl rfl)
theorem dX5_record_154 : decode cX5_record 154 = .ok (.iadd, 1) := dk_96 (dk_at dksX5_record_6 13 rfl rfl)
theorem dX5_record_155 : decode cX5_record 155 = .ok (.putfield 47, 3) := dk_181 0 47 (dk_at dksX5_record_6 14 rfl rfl)
theorem dX5_record_158 : decode cX5_record 158 = .ok (.return_, 1) := dk_177 (dk_at dksX5_record_6 17 rfl rfl)
abbrev cX5_build : ByteArray := prog_11_method_16_code
def yX5_build : MethodName := ⟨RX5, "build", "(II)I"⟩
def dkwX5_build_6 : List UInt8 := [182, 0, 64, 172]
abbrev dktX5_build_6 : List UInt8 := dkwX5_build_6 ++ []
def dkwX5_build_5 : List UInt8 := [42, 180, 0, 7, 8, 16, 251, 79, 42, 180, 0, 7, 16, 6, 16, 251, 79, 42, 182, 0, 44, 42]
abbrev dktX5_build_5 : List UInt8 := dkwX5_build_5 ++ dktX5_build_6
def dkwX5_build_4 : List UInt8 := [160, 0, 6, 16, 251, 172, 42, 182, 0, 61, 42, 180, 0, 7, 3, 27, 79, 42, 180, 0, 7, 4, 28, 79]
abbrev dktX5_build_4 : List UInt8 := dkwX5_build_4 ++ dktX5_build_5
def dkwX5_build_3 : List UInt8 := [29, 154, 0, 6, 16, 252, 172, 27, 42, 180, 0, 7, 3, 46, 160, 0, 16, 28, 42, 180, 0, 7, 4, 46]
abbrev dktX5_build_3 : List UInt8 := dkwX5_build_3 ++ dktX5_build_4
def dkwX5_build_2 : List UInt8 := [154, 0, 16, 42, 21, 4, 182, 0, 76, 154, 0, 7, 4, 167, 0, 4, 3, 62, 132, 4, 1, 167, 255, 216]
abbrev dktX5_build_2 : List UInt8 := dkwX5_build_2 ++ dktX5_build_3
def dkwX5_build_1 : List UInt8 := [62, 3, 54, 4, 21, 4, 42, 182, 0, 64, 162, 0, 37, 29, 153, 0, 25, 42, 21, 4, 182, 0, 72]
abbrev dktX5_build_1 : List UInt8 := dkwX5_build_1 ++ dktX5_build_2
def dkwX5_build_0 : List UInt8 := [27, 5, 16, 6, 184, 0, 68, 153, 0, 13, 28, 5, 16, 8, 184, 0, 68, 154, 0, 6, 16, 254, 172, 4]
abbrev dktX5_build_0 : List UInt8 := dkwX5_build_0 ++ dktX5_build_1
theorem dksX5_build_0 : cX5_build.data.toList.drop 0 = dktX5_build_0 := by decide +kernel
theorem dksX5_build_1 : cX5_build.data.toList.drop 24 = dktX5_build_1 := dk_seg dksX5_build_0 24 rfl rfl
theorem dksX5_build_2 : cX5_build.data.toList.drop 47 = dktX5_build_2 := dk_seg dksX5_build_1 23 rfl rfl
theorem dksX5_build_3 : cX5_build.data.toList.drop 71 = dktX5_build_3 := dk_seg dksX5_build_2 24 rfl rfl
theorem dksX5_build_4 : cX5_build.data.toList.drop 95 = dktX5_build_4 := dk_seg dksX5_build_3 24 rfl rfl
theorem dksX5_build_5 : cX5_build.data.toList.drop 119 = dktX5_build_5 := dk_seg dksX5_build_4 24 rfl rfl
theorem dksX5_build_6 : cX5_build.data.toList.drop 141 = dktX5_build_6 := dk_seg dksX5_build_5 22 rfl rfl
theorem dX5_build_0 : decode cX5_build 0 = .ok (.iload_n 1, 1) := dk_27 (dk_at dksX5_build_0 0 rfl rfl)
theorem dX5_build_1 : decode cX5_build 1 = .ok (.iconst 2, 1) := dk_5 (dk_at dksX5_build_0 1 rfl rfl)
theorem dX5_build_2 : decode cX5_build 2 = .ok (.bipush 6, 2) := dk_16 6 (dk_at dksX5_build_0 2 rfl rfl)
theorem dX5_build_4 : decode cX5_build 4 = .ok (.invokestatic 68, 3) := dk_184 0 68 (dk_at dksX5_build_0 4 rfl rfl)
theorem dX5_build_7 : decode cX5_build 7 = .ok (.ifCond .eq 13, 3) := dk_153 0 13 (dk_at dksX5_build_0 7 rfl rfl)
theorem dX5_build_10 : decode cX5_build 10 = .ok (.iload_n 2, 1) := dk_28 (dk_at dksX5_build_0 10 rfl rfl)
theorem dX5_build_11 : decode cX5_build 11 = .ok (.iconst 2, 1) := dk_5 (dk_at dksX5_build_0 11 rfl rfl)
theorem dX5_build_12 : decode cX5_build 12 = .ok (.bipush 8, 2) := dk_16 8 (dk_at dksX5_build_0 12 rfl rfl)
theorem dX5_build_14 : decode cX5_build 14 = .ok (.invokestatic 68, 3) := dk_184 0 68 (dk_at dksX5_build_0 14 rfl rfl)
theorem dX5_build_17 : decode cX5_build 17 = .ok (.ifCond .ne 6, 3) := dk_154 0 6 (dk_at dksX5_build_0 17 rfl rfl)
theorem dX5_build_20 : decode cX5_build 20 = .ok (.bipush (-2), 2) := dk_16 254 (dk_at dksX5_build_0 20 rfl rfl)
theorem dX5_build_22 : decode cX5_build 22 = .ok (.ireturn, 1) := dk_172 (dk_at dksX5_build_0 22 rfl rfl)
theorem dX5_build_23 : decode cX5_build 23 = .ok (.iconst 1, 1) := dk_4 (dk_at dksX5_build_0 23 rfl rfl)
theorem dX5_build_24 : decode cX5_build 24 = .ok (.istore_n 3, 1) := dk_62 (dk_at dksX5_build_1 0 rfl rfl)
theorem dX5_build_25 : decode cX5_build 25 = .ok (.iconst 0, 1) := dk_3 (dk_at dksX5_build_1 1 rfl rfl)
theorem dX5_build_26 : decode cX5_build 26 = .ok (.istore 4, 2) := dk_54 4 (dk_at dksX5_build_1 2 rfl rfl)
theorem dX5_build_28 : decode cX5_build 28 = .ok (.iload 4, 2) := dk_21 4 (dk_at dksX5_build_1 4 rfl rfl)
theorem dX5_build_30 : decode cX5_build 30 = .ok (.aload_n 0, 1) := dk_42 (dk_at dksX5_build_1 6 rfl rfl)
theorem dX5_build_31 : decode cX5_build 31 = .ok (.invokevirtual 64, 3) := dk_182 0 64 (dk_at dksX5_build_1 7 rfl rfl)
theorem dX5_build_34 : decode cX5_build 34 = .ok (.if_icmp .ge 37, 3) := dk_162 0 37 (dk_at dksX5_build_1 10 rfl rfl)
theorem dX5_build_37 : decode cX5_build 37 = .ok (.iload_n 3, 1) := dk_29 (dk_at dksX5_build_1 13 rfl rfl)
theorem dX5_build_38 : decode cX5_build 38 = .ok (.ifCond .eq 25, 3) := dk_153 0 25 (dk_at dksX5_build_1 14 rfl rfl)
theorem dX5_build_41 : decode cX5_build 41 = .ok (.aload_n 0, 1) := dk_42 (dk_at dksX5_build_1 17 rfl rfl)
theorem dX5_build_42 : decode cX5_build 42 = .ok (.iload 4, 2) := dk_21 4 (dk_at dksX5_build_1 18 rfl rfl)
theorem dX5_build_44 : decode cX5_build 44 = .ok (.invokevirtual 72, 3) := dk_182 0 72 (dk_at dksX5_build_1 20 rfl rfl)
theorem dX5_build_47 : decode cX5_build 47 = .ok (.ifCond .ne 16, 3) := dk_154 0 16 (dk_at dksX5_build_2 0 rfl rfl)
theorem dX5_build_50 : decode cX5_build 50 = .ok (.aload_n 0, 1) := dk_42 (dk_at dksX5_build_2 3 rfl rfl)
theorem dX5_build_51 : decode cX5_build 51 = .ok (.iload 4, 2) := dk_21 4 (dk_at dksX5_build_2 4 rfl rfl)
theorem dX5_build_53 : decode cX5_build 53 = .ok (.invokevirtual 76, 3) := dk_182 0 76 (dk_at dksX5_build_2 6 rfl rfl)
theorem dX5_build_56 : decode cX5_build 56 = .ok (.ifCond .ne 7, 3) := dk_154 0 7 (dk_at dksX5_build_2 9 rfl rfl)
theorem dX5_build_59 : decode cX5_build 59 = .ok (.iconst 1, 1) := dk_4 (dk_at dksX5_build_2 12 rfl rfl)
theorem dX5_build_60 : decode cX5_build 60 = .ok (.goto 4, 3) := dk_167 0 4 (dk_at dksX5_build_2 13 rfl rfl)
theorem dX5_build_63 : decode cX5_build 63 = .ok (.iconst 0, 1) := dk_3 (dk_at dksX5_build_2 16 rfl rfl)
theorem dX5_build_64 : decode cX5_build 64 = .ok (.istore_n 3, 1) := dk_62 (dk_at dksX5_build_2 17 rfl rfl)
theorem dX5_build_65 : decode cX5_build 65 = .ok (.iinc 4 1, 3) := dk_132 4 1 (dk_at dksX5_build_2 18 rfl rfl)
theorem dX5_build_68 : decode cX5_build 68 = .ok (.goto (-40), 3) := dk_167 255 216 (dk_at dksX5_build_2 21 rfl rfl)
theorem dX5_build_71 : decode cX5_build 71 = .ok (.iload_n 3, 1) := dk_29 (dk_at dksX5_build_3 0 rfl rfl)
theorem dX5_build_72 : decode cX5_build 72 = .ok (.ifCond .ne 6, 3) := dk_154 0 6 (dk_at dksX5_build_3 1 rfl rfl)
theorem dX5_build_75 : decode cX5_build 75 = .ok (.bipush (-4), 2) := dk_16 252 (dk_at dksX5_build_3 4 rfl rfl)
theorem dX5_build_77 : decode cX5_build 77 = .ok (.ireturn, 1) := dk_172 (dk_at dksX5_build_3 6 rfl rfl)
theorem dX5_build_78 : decode cX5_build 78 = .ok (.iload_n 1, 1) := dk_27 (dk_at dksX5_build_3 7 rfl rfl)
theorem dX5_build_79 : decode cX5_build 79 = .ok (.aload_n 0, 1) := dk_42 (dk_at dksX5_build_3 8 rfl rfl)
theorem dX5_build_80 : decode cX5_build 80 = .ok (.getfield 7, 3) := dk_180 0 7 (dk_at dksX5_build_3 9 rfl rfl)
theorem dX5_build_83 : decode cX5_build 83 = .ok (.iconst 0, 1) := dk_3 (dk_at dksX5_build_3 12 rfl rfl)
theorem dX5_build_84 : decode cX5_build 84 = .ok (.iaload, 1) := dk_46 (dk_at dksX5_build_3 13 rfl rfl)
theorem dX5_build_85 : decode cX5_build 85 = .ok (.if_icmp .ne 16, 3) := dk_160 0 16 (dk_at dksX5_build_3 14 rfl rfl)
theorem dX5_build_88 : decode cX5_build 88 = .ok (.iload_n 2, 1) := dk_28 (dk_at dksX5_build_3 17 rfl rfl)
theorem dX5_build_89 : decode cX5_build 89 = .ok (.aload_n 0, 1) := dk_42 (dk_at dksX5_build_3 18 rfl rfl)
theorem dX5_build_90 : decode cX5_build 90 = .ok (.getfield 7, 3) := dk_180 0 7 (dk_at dksX5_build_3 19 rfl rfl)
theorem dX5_build_93 : decode cX5_build 93 = .ok (.iconst 1, 1) := dk_4 (dk_at dksX5_build_3 22 rfl rfl)
theorem dX5_build_94 : decode cX5_build 94 = .ok (.iaload, 1) := dk_46 (dk_at dksX5_build_3 23 rfl rfl)
theorem dX5_build_95 : decode cX5_build 95 = .ok (.if_icmp .ne 6, 3) := dk_160 0 6 (dk_at dksX5_build_4 0 rfl rfl)
theorem dX5_build_98 : decode cX5_build 98 = .ok (.bipush (-5), 2) := dk_16 251 (dk_at dksX5_build_4 3 rfl rfl)
theorem dX5_build_100 : decode cX5_build 100 = .ok (.ireturn, 1) := dk_172 (dk_at dksX5_build_4 5 rfl rfl)
theorem dX5_build_101 : decode cX5_build 101 = .ok (.aload_n 0, 1) := dk_42 (dk_at dksX5_build_4 6 rfl rfl)
theorem dX5_build_102 : decode cX5_build 102 = .ok (.invokevirtual 61, 3) := dk_182 0 61 (dk_at dksX5_build_4 7 rfl rfl)
theorem dX5_build_105 : decode cX5_build 105 = .ok (.aload_n 0, 1) := dk_42 (dk_at dksX5_build_4 10 rfl rfl)
theorem dX5_build_106 : decode cX5_build 106 = .ok (.getfield 7, 3) := dk_180 0 7 (dk_at dksX5_build_4 11 rfl rfl)
theorem dX5_build_109 : decode cX5_build 109 = .ok (.iconst 0, 1) := dk_3 (dk_at dksX5_build_4 14 rfl rfl)
theorem dX5_build_110 : decode cX5_build 110 = .ok (.iload_n 1, 1) := dk_27 (dk_at dksX5_build_4 15 rfl rfl)
theorem dX5_build_111 : decode cX5_build 111 = .ok (.iastore, 1) := dk_79 (dk_at dksX5_build_4 16 rfl rfl)
theorem dX5_build_112 : decode cX5_build 112 = .ok (.aload_n 0, 1) := dk_42 (dk_at dksX5_build_4 17 rfl rfl)
theorem dX5_build_113 : decode cX5_build 113 = .ok (.getfield 7, 3) := dk_180 0 7 (dk_at dksX5_build_4 18 rfl rfl)
theorem dX5_build_116 : decode cX5_build 116 = .ok (.iconst 1, 1) := dk_4 (dk_at dksX5_build_4 21 rfl rfl)
theorem dX5_build_117 : decode cX5_build 117 = .ok (.iload_n 2, 1) := dk_28 (dk_at dksX5_build_4 22 rfl rfl)
theorem dX5_build_118 : decode cX5_build 118 = .ok (.iastore, 1) := dk_79 (dk_at dksX5_build_4 23 rfl rfl)
theorem dX5_build_119 : decode cX5_build 119 = .ok (.aload_n 0, 1) := dk_42 (dk_at dksX5_build_5 0 rfl rfl)
theorem dX5_build_120 : decode cX5_build 120 = .ok (.getfield 7, 3) := dk_180 0 7 (dk_at dksX5_build_5 1 rfl rfl)
theorem dX5_build_123 : decode cX5_build 123 = .ok (.iconst 5, 1) := dk_8 (dk_at dksX5_build_5 4 rfl rfl)
theorem dX5_build_124 : decode cX5_build 124 = .ok (.bipush (-5), 2) := dk_16 251 (dk_at dksX5_build_5 5 rfl rfl)
theorem dX5_build_126 : decode cX5_build 126 = .ok (.iastore, 1) := dk_79 (dk_at dksX5_build_5 7 rfl rfl)
theorem dX5_build_127 : decode cX5_build 127 = .ok (.aload_n 0, 1) := dk_42 (dk_at dksX5_build_5 8 rfl rfl)
theorem dX5_build_128 : decode cX5_build 128 = .ok (.getfield 7, 3) := dk_180 0 7 (dk_at dksX5_build_5 9 rfl rfl)
theorem dX5_build_131 : decode cX5_build 131 = .ok (.bipush 6, 2) := dk_16 6 (dk_at dksX5_build_5 12 rfl rfl)
theorem dX5_build_133 : decode cX5_build 133 = .ok (.bipush (-5), 2) := dk_16 251 (dk_at dksX5_build_5 14 rfl rfl)
theorem dX5_build_135 : decode cX5_build 135 = .ok (.iastore, 1) := dk_79 (dk_at dksX5_build_5 16 rfl rfl)
theorem dX5_build_136 : decode cX5_build 136 = .ok (.aload_n 0, 1) := dk_42 (dk_at dksX5_build_5 17 rfl rfl)
theorem dX5_build_137 : decode cX5_build 137 = .ok (.invokevirtual 44, 3) := dk_182 0 44 (dk_at dksX5_build_5 18 rfl rfl)
theorem dX5_build_140 : decode cX5_build 140 = .ok (.aload_n 0, 1) := dk_42 (dk_at dksX5_build_5 21 rfl rfl)
theorem dX5_build_141 : decode cX5_build 141 = .ok (.invokevirtual 64, 3) := dk_182 0 64 (dk_at dksX5_build_6 0 rfl rfl)
theorem dX5_build_144 : decode cX5_build 144 = .ok (.ireturn, 1) := dk_172 (dk_at dksX5_build_6 3 rfl rfl)
abbrev cX5_in : ByteArray := prog_11_method_3_code
def yX5_in : MethodName := ⟨RX5, "in", "(III)Z"⟩
def dkwX5_in_0 : List UInt8 := [26, 27, 161, 0, 12, 26, 28, 163, 0, 7, 4, 167, 0, 4, 3, 172]
abbrev dktX5_in_0 : List UInt8 := dkwX5_in_0 ++ []
theorem dksX5_in_0 : cX5_in.data.toList.drop 0 = dktX5_in_0 := by decide +kernel
theorem dX5_in_0 : decode cX5_in 0 = .ok (.iload_n 0, 1) := dk_26 (dk_at dksX5_in_0 0 rfl rfl)
theorem dX5_in_1 : decode cX5_in 1 = .ok (.iload_n 1, 1) := dk_27 (dk_at dksX5_in_0 1 rfl rfl)
theorem dX5_in_2 : decode cX5_in 2 = .ok (.if_icmp .lt 12, 3) := dk_161 0 12 (dk_at dksX5_in_0 2 rfl rfl)
theorem dX5_in_5 : decode cX5_in 5 = .ok (.iload_n 0, 1) := dk_26 (dk_at dksX5_in_0 5 rfl rfl)
theorem dX5_in_6 : decode cX5_in 6 = .ok (.iload_n 2, 1) := dk_28 (dk_at dksX5_in_0 6 rfl rfl)
theorem dX5_in_7 : decode cX5_in 7 = .ok (.if_icmp .gt 7, 3) := dk_163 0 7 (dk_at dksX5_in_0 7 rfl rfl)
theorem dX5_in_10 : decode cX5_in 10 = .ok (.iconst 1, 1) := dk_4 (dk_at dksX5_in_0 10 rfl rfl)
theorem dX5_in_11 : decode cX5_in 11 = .ok (.goto 4, 3) := dk_167 0 4 (dk_at dksX5_in_0 11 rfl rfl)
theorem dX5_in_14 : decode cX5_in 14 = .ok (.iconst 0, 1) := dk_3 (dk_at dksX5_in_0 14 rfl rfl)
theorem dX5_in_15 : decode cX5_in 15 = .ok (.ireturn, 1) := dk_172 (dk_at dksX5_in_0 15 rfl rfl)
abbrev cX5_keys : ByteArray := prog_11_method_11_code
def yX5_keys : MethodName := ⟨RX5, "keys", "()I"⟩
def dkwX5_keys_0 : List UInt8 := [42, 180, 0, 7, 3, 46, 42, 180, 0, 7, 4, 46, 104, 172]
abbrev dktX5_keys_0 : List UInt8 := dkwX5_keys_0 ++ []
theorem dksX5_keys_0 : cX5_keys.data.toList.drop 0 = dktX5_keys_0 := by decide +kernel
theorem dX5_keys_0 : decode cX5_keys 0 = .ok (.aload_n 0, 1) := dk_42 (dk_at dksX5_keys_0 0 rfl rfl)
theorem dX5_keys_1 : decode cX5_keys 1 = .ok (.getfield 7, 3) := dk_180 0 7 (dk_at dksX5_keys_0 1 rfl rfl)
theorem dX5_keys_4 : decode cX5_keys 4 = .ok (.iconst 0, 1) := dk_3 (dk_at dksX5_keys_0 4 rfl rfl)
theorem dX5_keys_5 : decode cX5_keys 5 = .ok (.iaload, 1) := dk_46 (dk_at dksX5_keys_0 5 rfl rfl)
theorem dX5_keys_6 : decode cX5_keys 6 = .ok (.aload_n 0, 1) := dk_42 (dk_at dksX5_keys_0 6 rfl rfl)
theorem dX5_keys_7 : decode cX5_keys 7 = .ok (.getfield 7, 3) := dk_180 0 7 (dk_at dksX5_keys_0 7 rfl rfl)
theorem dX5_keys_10 : decode cX5_keys 10 = .ok (.iconst 1, 1) := dk_4 (dk_at dksX5_keys_0 10 rfl rfl)
theorem dX5_keys_11 : decode cX5_keys 11 = .ok (.iaload, 1) := dk_46 (dk_at dksX5_keys_0 11 rfl rfl)
theorem dX5_keys_12 : decode cX5_keys 12 = .ok (.imul, 1) := dk_104 (dk_at dksX5_keys_0 12 rfl rfl)
theorem dX5_keys_13 : decode cX5_keys 13 = .ok (.ireturn, 1) := dk_172 (dk_at dksX5_keys_0 13 rfl rfl)
abbrev cX5_isDown : ByteArray := prog_11_method_14_code
def yX5_isDown : MethodName := ⟨RX5, "isDown", "(I)Z"⟩
def dkwX5_isDown_0 : List UInt8 := [42, 180, 0, 7, 16, 20, 27, 96, 46, 155, 0, 7, 4, 167, 0, 4, 3, 172]
abbrev dktX5_isDown_0 : List UInt8 := dkwX5_isDown_0 ++ []
theorem dksX5_isDown_0 : cX5_isDown.data.toList.drop 0 = dktX5_isDown_0 := by decide +kernel
theorem dX5_isDown_0 : decode cX5_isDown 0 = .ok (.aload_n 0, 1) := dk_42 (dk_at dksX5_isDown_0 0 rfl rfl)
theorem dX5_isDown_1 : decode cX5_isDown 1 = .ok (.getfield 7, 3) := dk_180 0 7 (dk_at dksX5_isDown_0 1 rfl rfl)
theorem dX5_isDown_4 : decode cX5_isDown 4 = .ok (.bipush 20, 2) := dk_16 20 (dk_at dksX5_isDown_0 4 rfl rfl)
theorem dX5_isDown_6 : decode cX5_isDown 6 = .ok (.iload_n 1, 1) := dk_27 (dk_at dksX5_isDown_0 6 rfl rfl)
theorem dX5_isDown_7 : decode cX5_isDown 7 = .ok (.iadd, 1) := dk_96 (dk_at dksX5_isDown_0 7 rfl rfl)
theorem dX5_isDown_8 : decode cX5_isDown 8 = .ok (.iaload, 1) := dk_46 (dk_at dksX5_isDown_0 8 rfl rfl)
theorem dX5_isDown_9 : decode cX5_isDown 9 = .ok (.ifCond .lt 7, 3) := dk_155 0 7 (dk_at dksX5_isDown_0 9 rfl rfl)
theorem dX5_isDown_12 : decode cX5_isDown 12 = .ok (.iconst 1, 1) := dk_4 (dk_at dksX5_isDown_0 12 rfl rfl)
theorem dX5_isDown_13 : decode cX5_isDown 13 = .ok (.goto 4, 3) := dk_167 0 4 (dk_at dksX5_isDown_0 13 rfl rfl)
theorem dX5_isDown_16 : decode cX5_isDown 16 = .ok (.iconst 0, 1) := dk_3 (dk_at dksX5_isDown_0 16 rfl rfl)
theorem dX5_isDown_17 : decode cX5_isDown 17 = .ok (.ireturn, 1) := dk_172 (dk_at dksX5_isDown_0 17 rfl rfl)
abbrev cX5_isSeen : ByteArray := prog_11_method_15_code
def yX5_isSeen : MethodName := ⟨RX5, "isSeen", "(I)Z"⟩
def dkwX5_isSeen_0 : List UInt8 := [42, 180, 0, 7, 16, 68, 27, 96, 46, 155, 0, 7, 4, 167, 0, 4, 3, 172]
abbrev dktX5_isSeen_0 : List UInt8 := dkwX5_isSeen_0 ++ []
theorem dksX5_isSeen_0 : cX5_isSeen.data.toList.drop 0 = dktX5_isSeen_0 := by decide +kernel
theorem dX5_isSeen_0 : decode cX5_isSeen 0 = .ok (.aload_n 0, 1) := dk_42 (dk_at dksX5_isSeen_0 0 rfl rfl)
theorem dX5_isSeen_1 : decode cX5_isSeen 1 = .ok (.getfield 7, 3) := dk_180 0 7 (dk_at dksX5_isSeen_0 1 rfl rfl)
theorem dX5_isSeen_4 : decode cX5_isSeen 4 = .ok (.bipush 68, 2) := dk_16 68 (dk_at dksX5_isSeen_0 4 rfl rfl)
theorem dX5_isSeen_6 : decode cX5_isSeen 6 = .ok (.iload_n 1, 1) := dk_27 (dk_at dksX5_isSeen_0 6 rfl rfl)
theorem dX5_isSeen_7 : decode cX5_isSeen 7 = .ok (.iadd, 1) := dk_96 (dk_at dksX5_isSeen_0 7 rfl rfl)
theorem dX5_isSeen_8 : decode cX5_isSeen 8 = .ok (.iaload, 1) := dk_46 (dk_at dksX5_isSeen_0 8 rfl rfl)
theorem dX5_isSeen_9 : decode cX5_isSeen 9 = .ok (.ifCond .lt 7, 3) := dk_155 0 7 (dk_at dksX5_isSeen_0 9 rfl rfl)
theorem dX5_isSeen_12 : decode cX5_isSeen 12 = .ok (.iconst 1, 1) := dk_4 (dk_at dksX5_isSeen_0 12 rfl rfl)
theorem dX5_isSeen_13 : decode cX5_isSeen 13 = .ok (.goto 4, 3) := dk_167 0 4 (dk_at dksX5_isSeen_0 13 rfl rfl)
theorem dX5_isSeen_16 : decode cX5_isSeen 16 = .ok (.iconst 0, 1) := dk_3 (dk_at dksX5_isSeen_0 16 rfl rfl)
theorem dX5_isSeen_17 : decode cX5_isSeen 17 = .ok (.ireturn, 1) := dk_172 (dk_at dksX5_isSeen_0 17 rfl rfl)
abbrev cX5_setSign : ByteArray := prog_11_method_18_code
def yX5_setSign : MethodName := ⟨RX5, "setSign", "(IC)I"⟩
def dkwX5_setSign_3 : List UInt8 := [27, 96, 28, 79, 21, 4, 155, 0, 14, 42, 180, 0, 7, 8, 21, 4, 96, 16, 251, 79, 29, 172]
abbrev dktX5_setSign_3 : List UInt8 := dkwX5_setSign_3 ++ []
def dkwX5_setSign_2 : List UInt8 := [29, 28, 160, 0, 11, 21, 4, 156, 0, 6, 16, 251, 172, 42, 182, 0, 61, 42, 180, 0, 7, 17, 1, 4]
abbrev dktX5_setSign_2 : List UInt8 := dkwX5_setSign_2 ++ dktX5_setSign_3
def dkwX5_setSign_1 : List UInt8 := [159, 0, 6, 16, 254, 172, 42, 180, 0, 7, 17, 1, 4, 27, 96, 46, 62, 42, 27, 182, 0, 82, 54, 4]
abbrev dktX5_setSign_1 : List UInt8 := dkwX5_setSign_1 ++ dktX5_setSign_2
def dkwX5_setSign_0 : List UInt8 := [42, 27, 182, 0, 79, 153, 0, 5, 2, 172, 28, 16, 97, 16, 122, 184, 0, 68, 154, 0, 12, 28, 16, 46]
abbrev dktX5_setSign_0 : List UInt8 := dkwX5_setSign_0 ++ dktX5_setSign_1
theorem dksX5_setSign_0 : cX5_setSign.data.toList.drop 0 = dktX5_setSign_0 := by decide +kernel
theorem dksX5_setSign_1 : cX5_setSign.data.toList.drop 24 = dktX5_setSign_1 := dk_seg dksX5_setSign_0 24 rfl rfl
theorem dksX5_setSign_2 : cX5_setSign.data.toList.drop 48 = dktX5_setSign_2 := dk_seg dksX5_setSign_1 24 rfl rfl
theorem dksX5_setSign_3 : cX5_setSign.data.toList.drop 72 = dktX5_setSign_3 := dk_seg dksX5_setSign_2 24 rfl rfl
theorem dX5_setSign_0 : decode cX5_setSign 0 = .ok (.aload_n 0, 1) := dk_42 (dk_at dksX5_setSign_0 0 rfl rfl)
theorem dX5_setSign_1 : decode cX5_setSign 1 = .ok (.iload_n 1, 1) := dk_27 (dk_at dksX5_setSign_0 1 rfl rfl)
theorem dX5_setSign_2 : decode cX5_setSign 2 = .ok (.invokevirtual 79, 3) := dk_182 0 79 (dk_at dksX5_setSign_0 2 rfl rfl)
theorem dX5_setSign_5 : decode cX5_setSign 5 = .ok (.ifCond .eq 5, 3) := dk_153 0 5 (dk_at dksX5_setSign_0 5 rfl rfl)
theorem dX5_setSign_8 : decode cX5_setSign 8 = .ok (.iconst (-1), 1) := dk_2 (dk_at dksX5_setSign_0 8 rfl rfl)
theorem dX5_setSign_9 : decode cX5_setSign 9 = .ok (.ireturn, 1) := dk_172 (dk_at dksX5_setSign_0 9 rfl rfl)
theorem dX5_setSign_10 : decode cX5_setSign 10 = .ok (.iload_n 2, 1) := dk_28 (dk_at dksX5_setSign_0 10 rfl rfl)
theorem dX5_setSign_11 : decode cX5_setSign 11 = .ok (.bipush 97, 2) := dk_16 97 (dk_at dksX5_setSign_0 11 rfl rfl)
theorem dX5_setSign_13 : decode cX5_setSign 13 = .ok (.bipush 122, 2) := dk_16 122 (dk_at dksX5_setSign_0 13 rfl rfl)
theorem dX5_setSign_15 : decode cX5_setSign 15 = .ok (.invokestatic 68, 3) := dk_184 0 68 (dk_at dksX5_setSign_0 15 rfl rfl)
theorem dX5_setSign_18 : decode cX5_setSign 18 = .ok (.ifCond .ne 12, 3) := dk_154 0 12 (dk_at dksX5_setSign_0 18 rfl rfl)
theorem dX5_setSign_21 : decode cX5_setSign 21 = .ok (.iload_n 2, 1) := dk_28 (dk_at dksX5_setSign_0 21 rfl rfl)
theorem dX5_setSign_22 : decode cX5_setSign 22 = .ok (.bipush 46, 2) := dk_16 46 (dk_at dksX5_setSign_0 22 rfl rfl)
theorem dX5_setSign_24 : decode cX5_setSign 24 = .ok (.if_icmp .eq 6, 3) := dk_159 0 6 (dk_at dksX5_setSign_1 0 rfl rfl)
theorem dX5_setSign_27 : decode cX5_setSign 27 = .ok (.bipush (-2), 2) := dk_16 254 (dk_at dksX5_setSign_1 3 rfl rfl)
theorem dX5_setSign_29 : decode cX5_setSign 29 = .ok (.ireturn, 1) := dk_172 (dk_at dksX5_setSign_1 5 rfl rfl)
theorem dX5_setSign_30 : decode cX5_setSign 30 = .ok (.aload_n 0, 1) := dk_42 (dk_at dksX5_setSign_1 6 rfl rfl)
theorem dX5_setSign_31 : decode cX5_setSign 31 = .ok (.getfield 7, 3) := dk_180 0 7 (dk_at dksX5_setSign_1 7 rfl rfl)
theorem dX5_setSign_34 : decode cX5_setSign 34 = .ok (.sipush 260, 3) := dk_17 1 4 (dk_at dksX5_setSign_1 10 rfl rfl)
theorem dX5_setSign_37 : decode cX5_setSign 37 = .ok (.iload_n 1, 1) := dk_27 (dk_at dksX5_setSign_1 13 rfl rfl)
theorem dX5_setSign_38 : decode cX5_setSign 38 = .ok (.iadd, 1) := dk_96 (dk_at dksX5_setSign_1 14 rfl rfl)
theorem dX5_setSign_39 : decode cX5_setSign 39 = .ok (.iaload, 1) := dk_46 (dk_at dksX5_setSign_1 15 rfl rfl)
theorem dX5_setSign_40 : decode cX5_setSign 40 = .ok (.istore_n 3, 1) := dk_62 (dk_at dksX5_setSign_1 16 rfl rfl)
theorem dX5_setSign_41 : decode cX5_setSign 41 = .ok (.aload_n 0, 1) := dk_42 (dk_at dksX5_setSign_1 17 rfl rfl)
theorem dX5_setSign_42 : decode cX5_setSign 42 = .ok (.iload_n 1, 1) := dk_27 (dk_at dksX5_setSign_1 18 rfl rfl)
theorem dX5_setSign_43 : decode cX5_setSign 43 = .ok (.invokevirtual 82, 3) := dk_182 0 82 (dk_at dksX5_setSign_1 19 rfl rfl)
theorem dX5_setSign_46 : decode cX5_setSign 46 = .ok (.istore 4, 2) := dk_54 4 (dk_at dksX5_setSign_1 22 rfl rfl)
theorem dX5_setSign_48 : decode cX5_setSign 48 = .ok (.iload_n 3, 1) := dk_29 (dk_at dksX5_setSign_2 0 rfl rfl)
theorem dX5_setSign_49 : decode cX5_setSign 49 = .ok (.iload_n 2, 1) := dk_28 (dk_at dksX5_setSign_2 1 rfl rfl)
theorem dX5_setSign_50 : decode cX5_setSign 50 = .ok (.if_icmp .ne 11, 3) := dk_160 0 11 (dk_at dksX5_setSign_2 2 rfl rfl)
theorem dX5_setSign_53 : decode cX5_setSign 53 = .ok (.iload 4, 2) := dk_21 4 (dk_at dksX5_setSign_2 5 rfl rfl)
theorem dX5_setSign_55 : decode cX5_setSign 55 = .ok (.ifCond .ge 6, 3) := dk_156 0 6 (dk_at dksX5_setSign_2 7 rfl rfl)
theorem dX5_setSign_58 : decode cX5_setSign 58 = .ok (.bipush (-5), 2) := dk_16 251 (dk_at dksX5_setSign_2 10 rfl rfl)
theorem dX5_setSign_60 : decode cX5_setSign 60 = .ok (.ireturn, 1) := dk_172 (dk_at dksX5_setSign_2 12 rfl rfl)
theorem dX5_setSign_61 : decode cX5_setSign 61 = .ok (.aload_n 0, 1) := dk_42 (dk_at dksX5_setSign_2 13 rfl rfl)
theorem dX5_setSign_62 : decode cX5_setSign 62 = .ok (.invokevirtual 61, 3) := dk_182 0 61 (dk_at dksX5_setSign_2 14 rfl rfl)
theorem dX5_setSign_65 : decode cX5_setSign 65 = .ok (.aload_n 0, 1) := dk_42 (dk_at dksX5_setSign_2 17 rfl rfl)
theorem dX5_setSign_66 : decode cX5_setSign 66 = .ok (.getfield 7, 3) := dk_180 0 7 (dk_at dksX5_setSign_2 18 rfl rfl)
theorem dX5_setSign_69 : decode cX5_setSign 69 = .ok (.sipush 260, 3) := dk_17 1 4 (dk_at dksX5_setSign_2 21 rfl rfl)
theorem dX5_setSign_72 : decode cX5_setSign 72 = .ok (.iload_n 1, 1) := dk_27 (dk_at dksX5_setSign_3 0 rfl rfl)
theorem dX5_setSign_73 : decode cX5_setSign 73 = .ok (.iadd, 1) := dk_96 (dk_at dksX5_setSign_3 1 rfl rfl)
theorem dX5_setSign_74 : decode cX5_setSign 74 = .ok (.iload_n 2, 1) := dk_28 (dk_at dksX5_setSign_3 2 rfl rfl)
theorem dX5_setSign_75 : decode cX5_setSign 75 = .ok (.iastore, 1) := dk_79 (dk_at dksX5_setSign_3 3 rfl rfl)
theorem dX5_setSign_76 : decode cX5_setSign 76 = .ok (.iload 4, 2) := dk_21 4 (dk_at dksX5_setSign_3 4 rfl rfl)
theorem dX5_setSign_78 : decode cX5_setSign 78 = .ok (.ifCond .lt 14, 3) := dk_155 0 14 (dk_at dksX5_setSign_3 6 rfl rfl)
theorem dX5_setSign_81 : decode cX5_setSign 81 = .ok (.aload_n 0, 1) := dk_42 (dk_at dksX5_setSign_3 9 rfl rfl)
theorem dX5_setSign_82 : decode cX5_setSign 82 = .ok (.getfield 7, 3) := dk_180 0 7 (dk_at dksX5_setSign_3 10 rfl rfl)
theorem dX5_setSign_85 : decode cX5_setSign 85 = .ok (.iconst 5, 1) := dk_8 (dk_at dksX5_setSign_3 13 rfl rfl)
theorem dX5_setSign_86 : decode cX5_setSign 86 = .ok (.iload 4, 2) := dk_21 4 (dk_at dksX5_setSign_3 14 rfl rfl)
theorem dX5_setSign_88 : decode cX5_setSign 88 = .ok (.iadd, 1) := dk_96 (dk_at dksX5_setSign_3 16 rfl rfl)
theorem dX5_setSign_89 : decode cX5_setSign 89 = .ok (.bipush (-5), 2) := dk_16 251 (dk_at dksX5_setSign_3 17 rfl rfl)
theorem dX5_setSign_91 : decode cX5_setSign 91 = .ok (.iastore, 1) := dk_79 (dk_at dksX5_setSign_3 19 rfl rfl)
theorem dX5_setSign_92 : decode cX5_setSign 92 = .ok (.iload_n 3, 1) := dk_29 (dk_at dksX5_setSign_3 20 rfl rfl)
theorem dX5_setSign_93 : decode cX5_setSign 93 = .ok (.ireturn, 1) := dk_172 (dk_at dksX5_setSign_3 21 rfl rfl)
abbrev cX5_noKey : ByteArray := prog_11_method_12_code
def yX5_noKey : MethodName := ⟨RX5, "noKey", "(I)Z"⟩
def dkwX5_noKey_0 : List UInt8 := [27, 3, 42, 182, 0, 64, 4, 100, 184, 0, 68, 154, 0, 7, 4, 167, 0, 4, 3, 172]
abbrev dktX5_noKey_0 : List UInt8 := dkwX5_noKey_0 ++ []
theorem dksX5_noKey_0 : cX5_noKey.data.toList.drop 0 = dktX5_noKey_0 := by decide +kernel
theorem dX5_noKey_0 : decode cX5_noKey 0 = .ok (.iload_n 1, 1) := dk_27 (dk_at dksX5_noKey_0 0 rfl rfl)
theorem dX5_noKey_1 : decode cX5_noKey 1 = .ok (.iconst 0, 1) := dk_3 (dk_at dksX5_noKey_0 1 rfl rfl)
theorem dX5_noKey_2 : decode cX5_noKey 2 = .ok (.aload_n 0, 1) := dk_42 (dk_at dksX5_noKey_0 2 rfl rfl)
theorem dX5_noKey_3 : decode cX5_noKey 3 = .ok (.invokevirtual 64, 3) := dk_182 0 64 (dk_at dksX5_noKey_0 3 rfl rfl)
theorem dX5_noKey_6 : decode cX5_noKey 6 = .ok (.iconst 1, 1) := dk_4 (dk_at dksX5_noKey_0 6 rfl rfl)
theorem dX5_noKey_7 : decode cX5_noKey 7 = .ok (.isub, 1) := dk_100 (dk_at dksX5_noKey_0 7 rfl rfl)
theorem dX5_noKey_8 : decode cX5_noKey 8 = .ok (.invokestatic 68, 3) := dk_184 0 68 (dk_at dksX5_noKey_0 8 rfl rfl)
theorem dX5_noKey_11 : decode cX5_noKey 11 = .ok (.ifCond .ne 7, 3) := dk_154 0 7 (dk_at dksX5_noKey_0 11 rfl rfl)
theorem dX5_noKey_14 : decode cX5_noKey 14 = .ok (.iconst 1, 1) := dk_4 (dk_at dksX5_noKey_0 14 rfl rfl)
theorem dX5_noKey_15 : decode cX5_noKey 15 = .ok (.goto 4, 3) := dk_167 0 4 (dk_at dksX5_noKey_0 15 rfl rfl)
theorem dX5_noKey_18 : decode cX5_noKey 18 = .ok (.iconst 0, 1) := dk_3 (dk_at dksX5_noKey_0 18 rfl rfl)
theorem dX5_noKey_19 : decode cX5_noKey 19 = .ok (.ireturn, 1) := dk_172 (dk_at dksX5_noKey_0 19 rfl rfl)
abbrev cX5_shiftOf : ByteArray := prog_11_method_17_code
def yX5_shiftOf : MethodName := ⟨RX5, "shiftOf", "(I)I"⟩
def dkwX5_shiftOf_1 : List UInt8 := [160, 0, 7, 4, 167, 0, 5, 16, 251, 172]
abbrev dktX5_shiftOf_1 : List UInt8 := dkwX5_shiftOf_1 ++ []
def dkwX5_shiftOf_0 : List UInt8 := [42, 180, 0, 7, 8, 46, 27, 160, 0, 7, 3, 167, 0, 20, 42, 180, 0, 7, 16, 6, 46, 27]
abbrev dktX5_shiftOf_0 : List UInt8 := dkwX5_shiftOf_0 ++ dktX5_shiftOf_1
theorem dksX5_shiftOf_0 : cX5_shiftOf.data.toList.drop 0 = dktX5_shiftOf_0 := by decide +kernel
theorem dksX5_shiftOf_1 : cX5_shiftOf.data.toList.drop 22 = dktX5_shiftOf_1 := dk_seg dksX5_shiftOf_0 22 rfl rfl
theorem dX5_shiftOf_0 : decode cX5_shiftOf 0 = .ok (.aload_n 0, 1) := dk_42 (dk_at dksX5_shiftOf_0 0 rfl rfl)
theorem dX5_shiftOf_1 : decode cX5_shiftOf 1 = .ok (.getfield 7, 3) := dk_180 0 7 (dk_at dksX5_shiftOf_0 1 rfl rfl)
theorem dX5_shiftOf_4 : decode cX5_shiftOf 4 = .ok (.iconst 5, 1) := dk_8 (dk_at dksX5_shiftOf_0 4 rfl rfl)
theorem dX5_shiftOf_5 : decode cX5_shiftOf 5 = .ok (.iaload, 1) := dk_46 (dk_at dksX5_shiftOf_0 5 rfl rfl)
theorem dX5_shiftOf_6 : decode cX5_shiftOf 6 = .ok (.iload_n 1, 1) := dk_27 (dk_at dksX5_shiftOf_0 6 rfl rfl)
theorem dX5_shiftOf_7 : decode cX5_shiftOf 7 = .ok (.if_icmp .ne 7, 3) := dk_160 0 7 (dk_at dksX5_shiftOf_0 7 rfl rfl)
theorem dX5_shiftOf_10 : decode cX5_shiftOf 10 = .ok (.iconst 0, 1) := dk_3 (dk_at dksX5_shiftOf_0 10 rfl rfl)
theorem dX5_shiftOf_11 : decode cX5_shiftOf 11 = .ok (.goto 20, 3) := dk_167 0 20 (dk_at dksX5_shiftOf_0 11 rfl rfl)
theorem dX5_shiftOf_14 : decode cX5_shiftOf 14 = .ok (.aload_n 0, 1) := dk_42 (dk_at dksX5_shiftOf_0 14 rfl rfl)
theorem dX5_shiftOf_15 : decode cX5_shiftOf 15 = .ok (.getfield 7, 3) := dk_180 0 7 (dk_at dksX5_shiftOf_0 15 rfl rfl)
theorem dX5_shiftOf_18 : decode cX5_shiftOf 18 = .ok (.bipush 6, 2) := dk_16 6 (dk_at dksX5_shiftOf_0 18 rfl rfl)
theorem dX5_shiftOf_20 : decode cX5_shiftOf 20 = .ok (.iaload, 1) := dk_46 (dk_at dksX5_shiftOf_0 20 rfl rfl)
theorem dX5_shiftOf_21 : decode cX5_shiftOf 21 = .ok (.iload_n 1, 1) := dk_27 (dk_at dksX5_shiftOf_0 21 rfl rfl)
theorem dX5_shiftOf_22 : decode cX5_shiftOf 22 = .ok (.if_icmp .ne 7, 3) := dk_160 0 7 (dk_at dksX5_shiftOf_1 0 rfl rfl)
theorem dX5_shiftOf_25 : decode cX5_shiftOf 25 = .ok (.iconst 1, 1) := dk_4 (dk_at dksX5_shiftOf_1 3 rfl rfl)
theorem dX5_shiftOf_26 : decode cX5_shiftOf 26 = .ok (.goto 5, 3) := dk_167 0 5 (dk_at dksX5_shiftOf_1 4 rfl rfl)
theorem dX5_shiftOf_29 : decode cX5_shiftOf 29 = .ok (.bipush (-5), 2) := dk_16 251 (dk_at dksX5_shiftOf_1 7 rfl rfl)
theorem dX5_shiftOf_31 : decode cX5_shiftOf 31 = .ok (.ireturn, 1) := dk_172 (dk_at dksX5_shiftOf_1 9 rfl rfl)
abbrev cX5_setShift : ByteArray := prog_11_method_19_code
def yX5_setShift : MethodName := ⟨RX5, "setShift", "(II)I"⟩
def dkwX5_setShift_3 : List UInt8 := [17, 1, 4, 28, 96, 16, 46, 79, 21, 4, 156, 0, 7, 28, 167, 0, 5, 21, 4, 172]
abbrev dktX5_setShift_3 : List UInt8 := dkwX5_setShift_3 ++ []
def dkwX5_setShift_2 : List UInt8 := [180, 0, 7, 8, 27, 96, 46, 54, 4, 42, 180, 0, 7, 8, 27, 96, 28, 79, 42, 180, 0, 7]
abbrev dktX5_setShift_2 : List UInt8 := dkwX5_setShift_2 ++ dktX5_setShift_3
def dkwX5_setShift_1 : List UInt8 := [29, 4, 27, 100, 160, 0, 6, 16, 252, 172, 29, 27, 160, 0, 6, 16, 251, 172, 42, 182, 0, 61, 42]
abbrev dktX5_setShift_1 : List UInt8 := dkwX5_setShift_1 ++ dktX5_setShift_2
def dkwX5_setShift_0 : List UInt8 := [42, 27, 182, 0, 86, 154, 0, 11, 42, 28, 182, 0, 79, 153, 0, 5, 2, 172, 42, 28, 182, 0, 82, 62]
abbrev dktX5_setShift_0 : List UInt8 := dkwX5_setShift_0 ++ dktX5_setShift_1
theorem dksX5_setShift_0 : cX5_setShift.data.toList.drop 0 = dktX5_setShift_0 := by decide +kernel
theorem dksX5_setShift_1 : cX5_setShift.data.toList.drop 24 = dktX5_setShift_1 := dk_seg dksX5_setShift_0 24 rfl rfl
theorem dksX5_setShift_2 : cX5_setShift.data.toList.drop 47 = dktX5_setShift_2 := dk_seg dksX5_setShift_1 23 rfl rfl
theorem dksX5_setShift_3 : cX5_setShift.data.toList.drop 69 = dktX5_setShift_3 := dk_seg dksX5_setShift_2 22 rfl rfl
theorem dX5_setShift_0 : decode cX5_setShift 0 = .ok (.aload_n 0, 1) := dk_42 (dk_at dksX5_setShift_0 0 rfl rfl)
theorem dX5_setShift_1 : decode cX5_setShift 1 = .ok (.iload_n 1, 1) := dk_27 (dk_at dksX5_setShift_0 1 rfl rfl)
theorem dX5_setShift_2 : decode cX5_setShift 2 = .ok (.invokevirtual 86, 3) := dk_182 0 86 (dk_at dksX5_setShift_0 2 rfl rfl)
theorem dX5_setShift_5 : decode cX5_setShift 5 = .ok (.ifCond .ne 11, 3) := dk_154 0 11 (dk_at dksX5_setShift_0 5 rfl rfl)
theorem dX5_setShift_8 : decode cX5_setShift 8 = .ok (.aload_n 0, 1) := dk_42 (dk_at dksX5_setShift_0 8 rfl rfl)
theorem dX5_setShift_9 : decode cX5_setShift 9 = .ok (.iload_n 2, 1) := dk_28 (dk_at dksX5_setShift_0 9 rfl rfl)
theorem dX5_setShift_10 : decode cX5_setShift 10 = .ok (.invokevirtual 79, 3) := dk_182 0 79 (dk_at dksX5_setShift_0 10 rfl rfl)
theorem dX5_setShift_13 : decode cX5_setShift 13 = .ok (.ifCond .eq 5, 3) := dk_153 0 5 (dk_at dksX5_setShift_0 13 rfl rfl)
theorem dX5_setShift_16 : decode cX5_setShift 16 = .ok (.iconst (-1), 1) := dk_2 (dk_at dksX5_setShift_0 16 rfl rfl)
theorem dX5_setShift_17 : decode cX5_setShift 17 = .ok (.ireturn, 1) := dk_172 (dk_at dksX5_setShift_0 17 rfl rfl)
theorem dX5_setShift_18 : decode cX5_setShift 18 = .ok (.aload_n 0, 1) := dk_42 (dk_at dksX5_setShift_0 18 rfl rfl)
theorem dX5_setShift_19 : decode cX5_setShift 19 = .ok (.iload_n 2, 1) := dk_28 (dk_at dksX5_setShift_0 19 rfl rfl)
theorem dX5_setShift_20 : decode cX5_setShift 20 = .ok (.invokevirtual 82, 3) := dk_182 0 82 (dk_at dksX5_setShift_0 20 rfl rfl)
theorem dX5_setShift_23 : decode cX5_setShift 23 = .ok (.istore_n 3, 1) := dk_62 (dk_at dksX5_setShift_0 23 rfl rfl)
theorem dX5_setShift_24 : decode cX5_setShift 24 = .ok (.iload_n 3, 1) := dk_29 (dk_at dksX5_setShift_1 0 rfl rfl)
theorem dX5_setShift_25 : decode cX5_setShift 25 = .ok (.iconst 1, 1) := dk_4 (dk_at dksX5_setShift_1 1 rfl rfl)
theorem dX5_setShift_26 : decode cX5_setShift 26 = .ok (.iload_n 1, 1) := dk_27 (dk_at dksX5_setShift_1 2 rfl rfl)
theorem dX5_setShift_27 : decode cX5_setShift 27 = .ok (.isub, 1) := dk_100 (dk_at dksX5_setShift_1 3 rfl rfl)
theorem dX5_setShift_28 : decode cX5_setShift 28 = .ok (.if_icmp .ne 6, 3) := dk_160 0 6 (dk_at dksX5_setShift_1 4 rfl rfl)
theorem dX5_setShift_31 : decode cX5_setShift 31 = .ok (.bipush (-4), 2) := dk_16 252 (dk_at dksX5_setShift_1 7 rfl rfl)
theorem dX5_setShift_33 : decode cX5_setShift 33 = .ok (.ireturn, 1) := dk_172 (dk_at dksX5_setShift_1 9 rfl rfl)
theorem dX5_setShift_34 : decode cX5_setShift 34 = .ok (.iload_n 3, 1) := dk_29 (dk_at dksX5_setShift_1 10 rfl rfl)
theorem dX5_setShift_35 : decode cX5_setShift 35 = .ok (.iload_n 1, 1) := dk_27 (dk_at dksX5_setShift_1 11 rfl rfl)
theorem dX5_setShift_36 : decode cX5_setShift 36 = .ok (.if_icmp .ne 6, 3) := dk_160 0 6 (dk_at dksX5_setShift_1 12 rfl rfl)
theorem dX5_setShift_39 : decode cX5_setShift 39 = .ok (.bipush (-5), 2) := dk_16 251 (dk_at dksX5_setShift_1 15 rfl rfl)
theorem dX5_setShift_41 : decode cX5_setShift 41 = .ok (.ireturn, 1) := dk_172 (dk_at dksX5_setShift_1 17 rfl rfl)
theorem dX5_setShift_42 : decode cX5_setShift 42 = .ok (.aload_n 0, 1) := dk_42 (dk_at dksX5_setShift_1 18 rfl rfl)
theorem dX5_setShift_43 : decode cX5_setShift 43 = .ok (.invokevirtual 61, 3) := dk_182 0 61 (dk_at dksX5_setShift_1 19 rfl rfl)
theorem dX5_setShift_46 : decode cX5_setShift 46 = .ok (.aload_n 0, 1) := dk_42 (dk_at dksX5_setShift_1 22 rfl rfl)
theorem dX5_setShift_47 : decode cX5_setShift 47 = .ok (.getfield 7, 3) := dk_180 0 7 (dk_at dksX5_setShift_2 0 rfl rfl)
theorem dX5_setShift_50 : decode cX5_setShift 50 = .ok (.iconst 5, 1) := dk_8 (dk_at dksX5_setShift_2 3 rfl rfl)
theorem dX5_setShift_51 : decode cX5_setShift 51 = .ok (.iload_n 1, 1) := dk_27 (dk_at dksX5_setShift_2 4 rfl rfl)
theorem dX5_setShift_52 : decode cX5_setShift 52 = .ok (.iadd, 1) := dk_96 (dk_at dksX5_setShift_2 5 rfl rfl)
theorem dX5_setShift_53 : decode cX5_setShift 53 = .ok (.iaload, 1) := dk_46 (dk_at dksX5_setShift_2 6 rfl rfl)
theorem dX5_setShift_54 : decode cX5_setShift 54 = .ok (.istore 4, 2) := dk_54 4 (dk_at dksX5_setShift_2 7 rfl rfl)
theorem dX5_setShift_56 : decode cX5_setShift 56 = .ok (.aload_n 0, 1) := dk_42 (dk_at dksX5_setShift_2 9 rfl rfl)
theorem dX5_setShift_57 : decode cX5_setShift 57 = .ok (.getfield 7, 3) := dk_180 0 7 (dk_at dksX5_setShift_2 10 rfl rfl)
theorem dX5_setShift_60 : decode cX5_setShift 60 = .ok (.iconst 5, 1) := dk_8 (dk_at dksX5_setShift_2 13 rfl rfl)
theorem dX5_setShift_61 : decode cX5_setShift 61 = .ok (.iload_n 1, 1) := dk_27 (dk_at dksX5_setShift_2 14 rfl rfl)
theorem dX5_setShift_62 : decode cX5_setShift 62 = .ok (.iadd, 1) := dk_96 (dk_at dksX5_setShift_2 15 rfl rfl)
theorem dX5_setShift_63 : decode cX5_setShift 63 = .ok (.iload_n 2, 1) := dk_28 (dk_at dksX5_setShift_2 16 rfl rfl)
theorem dX5_setShift_64 : decode cX5_setShift 64 = .ok (.iastore, 1) := dk_79 (dk_at dksX5_setShift_2 17 rfl rfl)
theorem dX5_setShift_65 : decode cX5_setShift 65 = .ok (.aload_n 0, 1) := dk_42 (dk_at dksX5_setShift_2 18 rfl rfl)
theorem dX5_setShift_66 : decode cX5_setShift 66 = .ok (.getfield 7, 3) := dk_180 0 7 (dk_at dksX5_setShift_2 19 rfl rfl)
theorem dX5_setShift_69 : decode cX5_setShift 69 = .ok (.sipush 260, 3) := dk_17 1 4 (dk_at dksX5_setShift_3 0 rfl rfl)
theorem dX5_setShift_72 : decode cX5_setShift 72 = .ok (.iload_n 2, 1) := dk_28 (dk_at dksX5_setShift_3 3 rfl rfl)
theorem dX5_setShift_73 : decode cX5_setShift 73 = .ok (.iadd, 1) := dk_96 (dk_at dksX5_setShift_3 4 rfl rfl)
theorem dX5_setShift_74 : decode cX5_setShift 74 = .ok (.bipush 46, 2) := dk_16 46 (dk_at dksX5_setShift_3 5 rfl rfl)
theorem dX5_setShift_76 : decode cX5_setShift 76 = .ok (.iastore, 1) := dk_79 (dk_at dksX5_setShift_3 7 rfl rfl)
theorem dX5_setShift_77 : decode cX5_setShift 77 = .ok (.iload 4, 2) := dk_21 4 (dk_at dksX5_setShift_3 8 rfl rfl)
theorem dX5_setShift_79 : decode cX5_setShift 79 = .ok (.ifCond .ge 7, 3) := dk_156 0 7 (dk_at dksX5_setShift_3 10 rfl rfl)
theorem dX5_setShift_82 : decode cX5_setShift 82 = .ok (.iload_n 2, 1) := dk_28 (dk_at dksX5_setShift_3 13 rfl rfl)
theorem dX5_setShift_83 : decode cX5_setShift 83 = .ok (.goto 5, 3) := dk_167 0 5 (dk_at dksX5_setShift_3 14 rfl rfl)
theorem dX5_setShift_86 : decode cX5_setShift 86 = .ok (.iload 4, 2) := dk_21 4 (dk_at dksX5_setShift_3 17 rfl rfl)
theorem dX5_setShift_88 : decode cX5_setShift 88 = .ok (.ireturn, 1) := dk_172 (dk_at dksX5_setShift_3 19 rfl rfl)
abbrev cX5_noTypist : ByteArray := prog_11_method_13_code
def yX5_noTypist : MethodName := ⟨RX5, "noTypist", "(I)Z"⟩
def dkwX5_noTypist_0 : List UInt8 := [27, 3, 4, 184, 0, 68, 154, 0, 7, 4, 167, 0, 4, 3, 172]
abbrev dktX5_noTypist_0 : List UInt8 := dkwX5_noTypist_0 ++ []
theorem dksX5_noTypist_0 : cX5_noTypist.data.toList.drop 0 = dktX5_noTypist_0 := by decide +kernel
theorem dX5_noTypist_0 : decode cX5_noTypist 0 = .ok (.iload_n 1, 1) := dk_27 (dk_at dksX5_noTypist_0 0 rfl rfl)
theorem dX5_noTypist_1 : decode cX5_noTypist 1 = .ok (.iconst 0, 1) := dk_3 (dk_at dksX5_noTypist_0 1 rfl rfl)
theorem dX5_noTypist_2 : decode cX5_noTypist 2 = .ok (.iconst 1, 1) := dk_4 (dk_at dksX5_noTypist_0 2 rfl rfl)
theorem dX5_noTypist_3 : decode cX5_noTypist 3 = .ok (.invokestatic 68, 3) := dk_184 0 68 (dk_at dksX5_noTypist_0 3 rfl rfl)
theorem dX5_noTypist_6 : decode cX5_noTypist 6 = .ok (.ifCond .ne 7, 3) := dk_154 0 7 (dk_at dksX5_noTypist_0 6 rfl rfl)
theorem dX5_noTypist_9 : decode cX5_noTypist 9 = .ok (.iconst 1, 1) := dk_4 (dk_at dksX5_noTypist_0 9 rfl rfl)
theorem dX5_noTypist_10 : decode cX5_noTypist 10 = .ok (.goto 4, 3) := dk_167 0 4 (dk_at dksX5_noTypist_0 10 rfl rfl)
theorem dX5_noTypist_13 : decode cX5_noTypist 13 = .ok (.iconst 0, 1) := dk_3 (dk_at dksX5_noTypist_0 13 rfl rfl)
theorem dX5_noTypist_14 : decode cX5_noTypist 14 = .ok (.ireturn, 1) := dk_172 (dk_at dksX5_noTypist_0 14 rfl rfl)
abbrev cX5_borrow : ByteArray := prog_11_method_20_code
def yX5_borrow : MethodName := ⟨RX5, "borrow", "(IZ)I"⟩
def dkwX5_borrow_3 : List UInt8 := [172]
abbrev dktX5_borrow_3 : List UInt8 := dkwX5_borrow_3 ++ []
def dkwX5_borrow_2 : List UInt8 := [153, 0, 7, 4, 167, 0, 4, 3, 79, 42, 180, 0, 7, 16, 7, 46, 42, 180, 0, 7, 16, 8, 46, 96]
abbrev dktX5_borrow_2 : List UInt8 := dkwX5_borrow_2 ++ dktX5_borrow_3
def dkwX5_borrow_1 : List UInt8 := [167, 0, 4, 3, 28, 160, 0, 6, 16, 251, 172, 42, 182, 0, 61, 42, 180, 0, 7, 16, 7, 27, 96, 28]
abbrev dktX5_borrow_1 : List UInt8 := dkwX5_borrow_1 ++ dktX5_borrow_2
def dkwX5_borrow_0 : List UInt8 := [42, 27, 182, 0, 86, 153, 0, 5, 2, 172, 42, 180, 0, 7, 16, 7, 27, 96, 46, 4, 160, 0, 7, 4]
abbrev dktX5_borrow_0 : List UInt8 := dkwX5_borrow_0 ++ dktX5_borrow_1
theorem dksX5_borrow_0 : cX5_borrow.data.toList.drop 0 = dktX5_borrow_0 := by decide +kernel
theorem dksX5_borrow_1 : cX5_borrow.data.toList.drop 24 = dktX5_borrow_1 := dk_seg dksX5_borrow_0 24 rfl rfl
theorem dksX5_borrow_2 : cX5_borrow.data.toList.drop 48 = dktX5_borrow_2 := dk_seg dksX5_borrow_1 24 rfl rfl
theorem dksX5_borrow_3 : cX5_borrow.data.toList.drop 72 = dktX5_borrow_3 := dk_seg dksX5_borrow_2 24 rfl rfl
theorem dX5_borrow_0 : decode cX5_borrow 0 = .ok (.aload_n 0, 1) := dk_42 (dk_at dksX5_borrow_0 0 rfl rfl)
theorem dX5_borrow_1 : decode cX5_borrow 1 = .ok (.iload_n 1, 1) := dk_27 (dk_at dksX5_borrow_0 1 rfl rfl)
theorem dX5_borrow_2 : decode cX5_borrow 2 = .ok (.invokevirtual 86, 3) := dk_182 0 86 (dk_at dksX5_borrow_0 2 rfl rfl)
theorem dX5_borrow_5 : decode cX5_borrow 5 = .ok (.ifCond .eq 5, 3) := dk_153 0 5 (dk_at dksX5_borrow_0 5 rfl rfl)
theorem dX5_borrow_8 : decode cX5_borrow 8 = .ok (.iconst (-1), 1) := dk_2 (dk_at dksX5_borrow_0 8 rfl rfl)
theorem dX5_borrow_9 : decode cX5_borrow 9 = .ok (.ireturn, 1) := dk_172 (dk_at dksX5_borrow_0 9 rfl rfl)
theorem dX5_borrow_10 : decode cX5_borrow 10 = .ok (.aload_n 0, 1) := dk_42 (dk_at dksX5_borrow_0 10 rfl rfl)
theorem dX5_borrow_11 : decode cX5_borrow 11 = .ok (.getfield 7, 3) := dk_180 0 7 (dk_at dksX5_borrow_0 11 rfl rfl)
theorem dX5_borrow_14 : decode cX5_borrow 14 = .ok (.bipush 7, 2) := dk_16 7 (dk_at dksX5_borrow_0 14 rfl rfl)
theorem dX5_borrow_16 : decode cX5_borrow 16 = .ok (.iload_n 1, 1) := dk_27 (dk_at dksX5_borrow_0 16 rfl rfl)
theorem dX5_borrow_17 : decode cX5_borrow 17 = .ok (.iadd, 1) := dk_96 (dk_at dksX5_borrow_0 17 rfl rfl)
theorem dX5_borrow_18 : decode cX5_borrow 18 = .ok (.iaload, 1) := dk_46 (dk_at dksX5_borrow_0 18 rfl rfl)
theorem dX5_borrow_19 : decode cX5_borrow 19 = .ok (.iconst 1, 1) := dk_4 (dk_at dksX5_borrow_0 19 rfl rfl)
theorem dX5_borrow_20 : decode cX5_borrow 20 = .ok (.if_icmp .ne 7, 3) := dk_160 0 7 (dk_at dksX5_borrow_0 20 rfl rfl)
theorem dX5_borrow_23 : decode cX5_borrow 23 = .ok (.iconst 1, 1) := dk_4 (dk_at dksX5_borrow_0 23 rfl rfl)
theorem dX5_borrow_24 : decode cX5_borrow 24 = .ok (.goto 4, 3) := dk_167 0 4 (dk_at dksX5_borrow_1 0 rfl rfl)
theorem dX5_borrow_27 : decode cX5_borrow 27 = .ok (.iconst 0, 1) := dk_3 (dk_at dksX5_borrow_1 3 rfl rfl)
theorem dX5_borrow_28 : decode cX5_borrow 28 = .ok (.iload_n 2, 1) := dk_28 (dk_at dksX5_borrow_1 4 rfl rfl)
theorem dX5_borrow_29 : decode cX5_borrow 29 = .ok (.if_icmp .ne 6, 3) := dk_160 0 6 (dk_at dksX5_borrow_1 5 rfl rfl)
theorem dX5_borrow_32 : decode cX5_borrow 32 = .ok (.bipush (-5), 2) := dk_16 251 (dk_at dksX5_borrow_1 8 rfl rfl)
theorem dX5_borrow_34 : decode cX5_borrow 34 = .ok (.ireturn, 1) := dk_172 (dk_at dksX5_borrow_1 10 rfl rfl)
theorem dX5_borrow_35 : decode cX5_borrow 35 = .ok (.aload_n 0, 1) := dk_42 (dk_at dksX5_borrow_1 11 rfl rfl)
theorem dX5_borrow_36 : decode cX5_borrow 36 = .ok (.invokevirtual 61, 3) := dk_182 0 61 (dk_at dksX5_borrow_1 12 rfl rfl)
theorem dX5_borrow_39 : decode cX5_borrow 39 = .ok (.aload_n 0, 1) := dk_42 (dk_at dksX5_borrow_1 15 rfl rfl)
theorem dX5_borrow_40 : decode cX5_borrow 40 = .ok (.getfield 7, 3) := dk_180 0 7 (dk_at dksX5_borrow_1 16 rfl rfl)
theorem dX5_borrow_43 : decode cX5_borrow 43 = .ok (.bipush 7, 2) := dk_16 7 (dk_at dksX5_borrow_1 19 rfl rfl)
theorem dX5_borrow_45 : decode cX5_borrow 45 = .ok (.iload_n 1, 1) := dk_27 (dk_at dksX5_borrow_1 21 rfl rfl)
theorem dX5_borrow_46 : decode cX5_borrow 46 = .ok (.iadd, 1) := dk_96 (dk_at dksX5_borrow_1 22 rfl rfl)
theorem dX5_borrow_47 : decode cX5_borrow 47 = .ok (.iload_n 2, 1) := dk_28 (dk_at dksX5_borrow_1 23 rfl rfl)
theorem dX5_borrow_48 : decode cX5_borrow 48 = .ok (.ifCond .eq 7, 3) := dk_153 0 7 (dk_at dksX5_borrow_2 0 rfl rfl)
theorem dX5_borrow_51 : decode cX5_borrow 51 = .ok (.iconst 1, 1) := dk_4 (dk_at dksX5_borrow_2 3 rfl rfl)
theorem dX5_borrow_52 : decode cX5_borrow 52 = .ok (.goto 4, 3) := dk_167 0 4 (dk_at dksX5_borrow_2 4 rfl rfl)
theorem dX5_borrow_55 : decode cX5_borrow 55 = .ok (.iconst 0, 1) := dk_3 (dk_at dksX5_borrow_2 7 rfl rfl)
theorem dX5_borrow_56 : decode cX5_borrow 56 = .ok (.iastore, 1) := dk_79 (dk_at dksX5_borrow_2 8 rfl rfl)
theorem dX5_borrow_57 : decode cX5_borrow 57 = .ok (.aload_n 0, 1) := dk_42 (dk_at dksX5_borrow_2 9 rfl rfl)
theorem dX5_borrow_58 : decode cX5_borrow 58 = .ok (.getfield 7, 3) := dk_180 0 7 (dk_at dksX5_borrow_2 10 rfl rfl)
theorem dX5_borrow_61 : decode cX5_borrow 61 = .ok (.bipush 7, 2) := dk_16 7 (dk_at dksX5_borrow_2 13 rfl rfl)
theorem dX5_borrow_63 : decode cX5_borrow 63 = .ok (.iaload, 1) := dk_46 (dk_at dksX5_borrow_2 15 rfl rfl)
theorem dX5_borrow_64 : decode cX5_borrow 64 = .ok (.aload_n 0, 1) := dk_42 (dk_at dksX5_borrow_2 16 rfl rfl)
theorem dX5_borrow_65 : decode cX5_borrow 65 = .ok (.getfield 7, 3) := dk_180 0 7 (dk_at dksX5_borrow_2 17 rfl rfl)
theorem dX5_borrow_68 : decode cX5_borrow 68 = .ok (.bipush 8, 2) := dk_16 8 (dk_at dksX5_borrow_2 20 rfl rfl)
theorem dX5_borrow_70 : decode cX5_borrow 70 = .ok (.iaload, 1) := dk_46 (dk_at dksX5_borrow_2 22 rfl rfl)
theorem dX5_borrow_71 : decode cX5_borrow 71 = .ok (.iadd, 1) := dk_96 (dk_at dksX5_borrow_2 23 rfl rfl)
theorem dX5_borrow_72 : decode cX5_borrow 72 = .ok (.ireturn, 1) := dk_172 (dk_at dksX5_borrow_3 0 rfl rfl)
abbrev cX5_set : ByteArray := prog_11_method_21_code
def yX5_set : MethodName := ⟨RX5, "set", "(II)I"⟩
def dkwX5_set_4 : List UInt8 := [42, 180, 0, 22, 7, 27, 96, 37, 81, 23, 5, 184, 0, 97, 172]
abbrev dktX5_set_4 : List UInt8 := dkwX5_set_4 ++ []
def dkwX5_set_3 : List UInt8 := [42, 180, 0, 22, 7, 27, 96, 48, 56, 5, 23, 5, 37, 149, 154, 0, 6, 16, 251, 172, 42, 182, 0, 61]
abbrev dktX5_set_3 : List UInt8 := dkwX5_set_3 ++ dktX5_set_4
def dkwX5_set_2 : List UInt8 := [18, 39, 167, 0, 4, 12, 56, 4, 37, 11, 149, 155, 0, 10, 37, 23, 4, 150, 158, 0, 6, 16, 254, 172]
abbrev dktX5_set_2 : List UInt8 := dkwX5_set_2 ++ dktX5_set_3
def dkwX5_set_1 : List UInt8 := [164, 0, 6, 16, 254, 172, 28, 184, 0, 91, 70, 27, 154, 0, 7, 13, 167, 0, 14, 27, 4, 160, 0, 8]
abbrev dktX5_set_1 : List UInt8 := dkwX5_set_1 ++ dktX5_set_2
def dkwX5_set_0 : List UInt8 := [27, 3, 5, 184, 0, 68, 154, 0, 6, 16, 254, 172, 28, 155, 0, 12, 28, 18, 89, 126, 18, 90]
abbrev dktX5_set_0 : List UInt8 := dkwX5_set_0 ++ dktX5_set_1
theorem dksX5_set_0 : cX5_set.data.toList.drop 0 = dktX5_set_0 := by decide +kernel
theorem dksX5_set_1 : cX5_set.data.toList.drop 22 = dktX5_set_1 := dk_seg dksX5_set_0 22 rfl rfl
theorem dksX5_set_2 : cX5_set.data.toList.drop 46 = dktX5_set_2 := dk_seg dksX5_set_1 24 rfl rfl
theorem dksX5_set_3 : cX5_set.data.toList.drop 70 = dktX5_set_3 := dk_seg dksX5_set_2 24 rfl rfl
theorem dksX5_set_4 : cX5_set.data.toList.drop 94 = dktX5_set_4 := dk_seg dksX5_set_3 24 rfl rfl
theorem dX5_set_0 : decode cX5_set 0 = .ok (.iload_n 1, 1) := dk_27 (dk_at dksX5_set_0 0 rfl rfl)
theorem dX5_set_1 : decode cX5_set 1 = .ok (.iconst 0, 1) := dk_3 (dk_at dksX5_set_0 1 rfl rfl)
theorem dX5_set_2 : decode cX5_set 2 = .ok (.iconst 2, 1) := dk_5 (dk_at dksX5_set_0 2 rfl rfl)
theorem dX5_set_3 : decode cX5_set 3 = .ok (.invokestatic 68, 3) := dk_184 0 68 (dk_at dksX5_set_0 3 rfl rfl)
theorem dX5_set_6 : decode cX5_set 6 = .ok (.ifCond .ne 6, 3) := dk_154 0 6 (dk_at dksX5_set_0 6 rfl rfl)
theorem dX5_set_9 : decode cX5_set 9 = .ok (.bipush (-2), 2) := dk_16 254 (dk_at dksX5_set_0 9 rfl rfl)
theorem dX5_set_11 : decode cX5_set 11 = .ok (.ireturn, 1) := dk_172 (dk_at dksX5_set_0 11 rfl rfl)
theorem dX5_set_12 : decode cX5_set 12 = .ok (.iload_n 2, 1) := dk_28 (dk_at dksX5_set_0 12 rfl rfl)
theorem dX5_set_13 : decode cX5_set 13 = .ok (.ifCond .lt 12, 3) := dk_155 0 12 (dk_at dksX5_set_0 13 rfl rfl)
theorem dX5_set_16 : decode cX5_set 16 = .ok (.iload_n 2, 1) := dk_28 (dk_at dksX5_set_0 16 rfl rfl)
theorem dX5_set_17 : decode cX5_set 17 = .ok (.ldc 89, 2) := dk_18 89 (dk_at dksX5_set_0 17 rfl rfl)
theorem dX5_set_19 : decode cX5_set 19 = .ok (.iand, 1) := dk_126 (dk_at dksX5_set_0 19 rfl rfl)
theorem dX5_set_20 : decode cX5_set 20 = .ok (.ldc 90, 2) := dk_18 90 (dk_at dksX5_set_0 20 rfl rfl)
theorem dX5_set_22 : decode cX5_set 22 = .ok (.if_icmp .le 6, 3) := dk_164 0 6 (dk_at dksX5_set_1 0 rfl rfl)
theorem dX5_set_25 : decode cX5_set 25 = .ok (.bipush (-2), 2) := dk_16 254 (dk_at dksX5_set_1 3 rfl rfl)
theorem dX5_set_27 : decode cX5_set 27 = .ok (.ireturn, 1) := dk_172 (dk_at dksX5_set_1 5 rfl rfl)
theorem dX5_set_28 : decode cX5_set 28 = .ok (.iload_n 2, 1) := dk_28 (dk_at dksX5_set_1 6 rfl rfl)
theorem dX5_set_29 : decode cX5_set 29 = .ok (.invokestatic 91, 3) := dk_184 0 91 (dk_at dksX5_set_1 7 rfl rfl)
theorem dX5_set_32 : decode cX5_set 32 = .ok (.fstore_n 3, 1) := dk_70 (dk_at dksX5_set_1 10 rfl rfl)
theorem dX5_set_33 : decode cX5_set 33 = .ok (.iload_n 1, 1) := dk_27 (dk_at dksX5_set_1 11 rfl rfl)
theorem dX5_set_34 : decode cX5_set 34 = .ok (.ifCond .ne 7, 3) := dk_154 0 7 (dk_at dksX5_set_1 12 rfl rfl)
theorem dX5_set_37 : decode cX5_set 37 = .ok (.fconst 2, 1) := dk_13 (dk_at dksX5_set_1 15 rfl rfl)
theorem dX5_set_38 : decode cX5_set 38 = .ok (.goto 14, 3) := dk_167 0 14 (dk_at dksX5_set_1 16 rfl rfl)
theorem dX5_set_41 : decode cX5_set 41 = .ok (.iload_n 1, 1) := dk_27 (dk_at dksX5_set_1 19 rfl rfl)
theorem dX5_set_42 : decode cX5_set 42 = .ok (.iconst 1, 1) := dk_4 (dk_at dksX5_set_1 20 rfl rfl)
theorem dX5_set_43 : decode cX5_set 43 = .ok (.if_icmp .ne 8, 3) := dk_160 0 8 (dk_at dksX5_set_1 21 rfl rfl)
theorem dX5_set_46 : decode cX5_set 46 = .ok (.ldc 39, 2) := dk_18 39 (dk_at dksX5_set_2 0 rfl rfl)
theorem dX5_set_48 : decode cX5_set 48 = .ok (.goto 4, 3) := dk_167 0 4 (dk_at dksX5_set_2 2 rfl rfl)
theorem dX5_set_51 : decode cX5_set 51 = .ok (.fconst 1, 1) := dk_12 (dk_at dksX5_set_2 5 rfl rfl)
theorem dX5_set_52 : decode cX5_set 52 = .ok (.fstore 4, 2) := dk_56 4 (dk_at dksX5_set_2 6 rfl rfl)
theorem dX5_set_54 : decode cX5_set 54 = .ok (.fload_n 3, 1) := dk_37 (dk_at dksX5_set_2 8 rfl rfl)
theorem dX5_set_55 : decode cX5_set 55 = .ok (.fconst 0, 1) := dk_11 (dk_at dksX5_set_2 9 rfl rfl)
theorem dX5_set_56 : decode cX5_set 56 = .ok (.fcmp .l, 1) := dk_149 (dk_at dksX5_set_2 10 rfl rfl)
theorem dX5_set_57 : decode cX5_set 57 = .ok (.ifCond .lt 10, 3) := dk_155 0 10 (dk_at dksX5_set_2 11 rfl rfl)
theorem dX5_set_60 : decode cX5_set 60 = .ok (.fload_n 3, 1) := dk_37 (dk_at dksX5_set_2 14 rfl rfl)
theorem dX5_set_61 : decode cX5_set 61 = .ok (.fload 4, 2) := dk_23 4 (dk_at dksX5_set_2 15 rfl rfl)
theorem dX5_set_63 : decode cX5_set 63 = .ok (.fcmp .g, 1) := dk_150 (dk_at dksX5_set_2 17 rfl rfl)
theorem dX5_set_64 : decode cX5_set 64 = .ok (.ifCond .le 6, 3) := dk_158 0 6 (dk_at dksX5_set_2 18 rfl rfl)
theorem dX5_set_67 : decode cX5_set 67 = .ok (.bipush (-2), 2) := dk_16 254 (dk_at dksX5_set_2 21 rfl rfl)
theorem dX5_set_69 : decode cX5_set 69 = .ok (.ireturn, 1) := dk_172 (dk_at dksX5_set_2 23 rfl rfl)
theorem dX5_set_70 : decode cX5_set 70 = .ok (.aload_n 0, 1) := dk_42 (dk_at dksX5_set_3 0 rfl rfl)
theorem dX5_set_71 : decode cX5_set 71 = .ok (.getfield 22, 3) := dk_180 0 22 (dk_at dksX5_set_3 1 rfl rfl)
theorem dX5_set_74 : decode cX5_set 74 = .ok (.iconst 4, 1) := dk_7 (dk_at dksX5_set_3 4 rfl rfl)
theorem dX5_set_75 : decode cX5_set 75 = .ok (.iload_n 1, 1) := dk_27 (dk_at dksX5_set_3 5 rfl rfl)
theorem dX5_set_76 : decode cX5_set 76 = .ok (.iadd, 1) := dk_96 (dk_at dksX5_set_3 6 rfl rfl)
theorem dX5_set_77 : decode cX5_set 77 = .ok (.faload, 1) := dk_48 (dk_at dksX5_set_3 7 rfl rfl)
theorem dX5_set_78 : decode cX5_set 78 = .ok (.fstore 5, 2) := dk_56 5 (dk_at dksX5_set_3 8 rfl rfl)
theorem dX5_set_80 : decode cX5_set 80 = .ok (.fload 5, 2) := dk_23 5 (dk_at dksX5_set_3 10 rfl rfl)
theorem dX5_set_82 : decode cX5_set 82 = .ok (.fload_n 3, 1) := dk_37 (dk_at dksX5_set_3 12 rfl rfl)
theorem dX5_set_83 : decode cX5_set 83 = .ok (.fcmp .l, 1) := dk_149 (dk_at dksX5_set_3 13 rfl rfl)
theorem dX5_set_84 : decode cX5_set 84 = .ok (.ifCond .ne 6, 3) := dk_154 0 6 (dk_at dksX5_set_3 14 rfl rfl)
theorem dX5_set_87 : decode cX5_set 87 = .ok (.bipush (-5), 2) := dk_16 251 (dk_at dksX5_set_3 17 rfl rfl)
theorem dX5_set_89 : decode cX5_set 89 = .ok (.ireturn, 1) := dk_172 (dk_at dksX5_set_3 19 rfl rfl)
theorem dX5_set_90 : decode cX5_set 90 = .ok (.aload_n 0, 1) := dk_42 (dk_at dksX5_set_3 20 rfl rfl)
theorem dX5_set_91 : decode cX5_set 91 = .ok (.invokevirtual 61, 3) := dk_182 0 61 (dk_at dksX5_set_3 21 rfl rfl)
theorem dX5_set_94 : decode cX5_set 94 = .ok (.aload_n 0, 1) := dk_42 (dk_at dksX5_set_4 0 rfl rfl)
theorem dX5_set_95 : decode cX5_set 95 = .ok (.getfield 22, 3) := dk_180 0 22 (dk_at dksX5_set_4 1 rfl rfl)
theorem dX5_set_98 : decode cX5_set 98 = .ok (.iconst 4, 1) := dk_7 (dk_at dksX5_set_4 4 rfl rfl)
theorem dX5_set_99 : decode cX5_set 99 = .ok (.iload_n 1, 1) := dk_27 (dk_at dksX5_set_4 5 rfl rfl)
theorem dX5_set_100 : decode cX5_set 100 = .ok (.iadd, 1) := dk_96 (dk_at dksX5_set_4 6 rfl rfl)
theorem dX5_set_101 : decode cX5_set 101 = .ok (.fload_n 3, 1) := dk_37 (dk_at dksX5_set_4 7 rfl rfl)
theorem dX5_set_102 : decode cX5_set 102 = .ok (.fastore, 1) := dk_81 (dk_at dksX5_set_4 8 rfl rfl)
theorem dX5_set_103 : decode cX5_set 103 = .ok (.fload 5, 2) := dk_23 5 (dk_at dksX5_set_4 9 rfl rfl)
theorem dX5_set_105 : decode cX5_set 105 = .ok (.invokestatic 97, 3) := dk_184 0 97 (dk_at dksX5_set_4 11 rfl rfl)
theorem dX5_set_108 : decode cX5_set 108 = .ok (.ireturn, 1) := dk_172 (dk_at dksX5_set_4 14 rfl rfl)
abbrev cX5_press : ByteArray := prog_11_method_39_code
def yX5_press : MethodName := ⟨RX5, "press", "(II)I"⟩
def dkwX5_press_1 : List UInt8 := [96, 27, 79, 42, 27, 182, 0, 150, 172]
abbrev dktX5_press_1 : List UInt8 := dkwX5_press_1 ++ []
def dkwX5_press_0 : List UInt8 := [42, 27, 28, 182, 0, 153, 62, 29, 156, 0, 5, 29, 172, 42, 182, 0, 61, 42, 180, 0, 7, 16, 20, 28]
abbrev dktX5_press_0 : List UInt8 := dkwX5_press_0 ++ dktX5_press_1
theorem dksX5_press_0 : cX5_press.data.toList.drop 0 = dktX5_press_0 := by decide +kernel
theorem dksX5_press_1 : cX5_press.data.toList.drop 24 = dktX5_press_1 := dk_seg dksX5_press_0 24 rfl rfl
theorem dX5_press_0 : decode cX5_press 0 = .ok (.aload_n 0, 1) := dk_42 (dk_at dksX5_press_0 0 rfl rfl)
theorem dX5_press_1 : decode cX5_press 1 = .ok (.iload_n 1, 1) := dk_27 (dk_at dksX5_press_0 1 rfl rfl)
theorem dX5_press_2 : decode cX5_press 2 = .ok (.iload_n 2, 1) := dk_28 (dk_at dksX5_press_0 2 rfl rfl)
theorem dX5_press_3 : decode cX5_press 3 = .ok (.invokevirtual 153, 3) := dk_182 0 153 (dk_at dksX5_press_0 3 rfl rfl)
theorem dX5_press_6 : decode cX5_press 6 = .ok (.istore_n 3, 1) := dk_62 (dk_at dksX5_press_0 6 rfl rfl)
theorem dX5_press_7 : decode cX5_press 7 = .ok (.iload_n 3, 1) := dk_29 (dk_at dksX5_press_0 7 rfl rfl)
theorem dX5_press_8 : decode cX5_press 8 = .ok (.ifCond .ge 5, 3) := dk_156 0 5 (dk_at dksX5_press_0 8 rfl rfl)
theorem dX5_press_11 : decode cX5_press 11 = .ok (.iload_n 3, 1) := dk_29 (dk_at dksX5_press_0 11 rfl rfl)
theorem dX5_press_12 : decode cX5_press 12 = .ok (.ireturn, 1) := dk_172 (dk_at dksX5_press_0 12 rfl rfl)
theorem dX5_press_13 : decode cX5_press 13 = .ok (.aload_n 0, 1) := dk_42 (dk_at dksX5_press_0 13 rfl rfl)
theorem dX5_press_14 : decode cX5_press 14 = .ok (.invokevirtual 61, 3) := dk_182 0 61 (dk_at dksX5_press_0 14 rfl rfl)
theorem dX5_press_17 : decode cX5_press 17 = .ok (.aload_n 0, 1) := dk_42 (dk_at dksX5_press_0 17 rfl rfl)
theorem dX5_press_18 : decode cX5_press 18 = .ok (.getfield 7, 3) := dk_180 0 7 (dk_at dksX5_press_0 18 rfl rfl)
theorem dX5_press_21 : decode cX5_press 21 = .ok (.bipush 20, 2) := dk_16 20 (dk_at dksX5_press_0 21 rfl rfl)
theorem dX5_press_23 : decode cX5_press 23 = .ok (.iload_n 2, 1) := dk_28 (dk_at dksX5_press_0 23 rfl rfl)
theorem dX5_press_24 : decode cX5_press 24 = .ok (.iadd, 1) := dk_96 (dk_at dksX5_press_1 0 rfl rfl)
theorem dX5_press_25 : decode cX5_press 25 = .ok (.iload_n 1, 1) := dk_27 (dk_at dksX5_press_1 1 rfl rfl)
theorem dX5_press_26 : decode cX5_press 26 = .ok (.iastore, 1) := dk_79 (dk_at dksX5_press_1 2 rfl rfl)
theorem dX5_press_27 : decode cX5_press 27 = .ok (.aload_n 0, 1) := dk_42 (dk_at dksX5_press_1 3 rfl rfl)
theorem dX5_press_28 : decode cX5_press 28 = .ok (.iload_n 1, 1) := dk_27 (dk_at dksX5_press_1 4 rfl rfl)
theorem dX5_press_29 : decode cX5_press 29 = .ok (.invokevirtual 150, 3) := dk_182 0 150 (dk_at dksX5_press_1 5 rfl rfl)
theorem dX5_press_32 : decode cX5_press 32 = .ok (.ireturn, 1) := dk_172 (dk_at dksX5_press_1 8 rfl rfl)
abbrev cX5_againstPress : ByteArray := prog_11_method_37_code
def yX5_againstPress : MethodName := ⟨RX5, "againstPress", "(II)I"⟩
def dkwX5_againstPress_1 : List UInt8 := [153, 0, 8, 16, 252, 167, 0, 18, 42, 27, 182, 0, 150, 8, 160, 0, 8, 16, 253, 167, 0, 4, 3, 172]
abbrev dktX5_againstPress_1 : List UInt8 := dkwX5_againstPress_1 ++ []
def dkwX5_againstPress_0 : List UInt8 := [42, 27, 182, 0, 86, 154, 0, 11, 42, 28, 182, 0, 79, 153, 0, 5, 2, 172, 42, 28, 182, 0, 72]
abbrev dktX5_againstPress_0 : List UInt8 := dkwX5_againstPress_0 ++ dktX5_againstPress_1
theorem dksX5_againstPress_0 : cX5_againstPress.data.toList.drop 0 = dktX5_againstPress_0 := by decide +kernel
theorem dksX5_againstPress_1 : cX5_againstPress.data.toList.drop 23 = dktX5_againstPress_1 := dk_seg dksX5_againstPress_0 23 rfl rfl
theorem dX5_againstPress_0 : decode cX5_againstPress 0 = .ok (.aload_n 0, 1) := dk_42 (dk_at dksX5_againstPress_0 0 rfl rfl)
theorem dX5_againstPress_1 : decode cX5_againstPress 1 = .ok (.iload_n 1, 1) := dk_27 (dk_at dksX5_againstPress_0 1 rfl rfl)
theorem dX5_againstPress_2 : decode cX5_againstPress 2 = .ok (.invokevirtual 86, 3) := dk_182 0 86 (dk_at dksX5_againstPress_0 2 rfl rfl)
theorem dX5_againstPress_5 : decode cX5_againstPress 5 = .ok (.ifCond .ne 11, 3) := dk_154 0 11 (dk_at dksX5_againstPress_0 5 rfl rfl)
theorem dX5_againstPress_8 : decode cX5_againstPress 8 = .ok (.aload_n 0, 1) := dk_42 (dk_at dksX5_againstPress_0 8 rfl rfl)
theorem dX5_againstPress_9 : decode cX5_againstPress 9 = .ok (.iload_n 2, 1) := dk_28 (dk_at dksX5_againstPress_0 9 rfl rfl)
theorem dX5_againstPress_10 : decode cX5_againstPress 10 = .ok (.invokevirtual 79, 3) := dk_182 0 79 (dk_at dksX5_againstPress_0 10 rfl rfl)
theorem dX5_againstPress_13 : decode cX5_againstPress 13 = .ok (.ifCond .eq 5, 3) := dk_153 0 5 (dk_at dksX5_againstPress_0 13 rfl rfl)
theorem dX5_againstPress_16 : decode cX5_againstPress 16 = .ok (.iconst (-1), 1) := dk_2 (dk_at dksX5_againstPress_0 16 rfl rfl)
theorem dX5_againstPress_17 : decode cX5_againstPress 17 = .ok (.ireturn, 1) := dk_172 (dk_at dksX5_againstPress_0 17 rfl rfl)
theorem dX5_againstPress_18 : decode cX5_againstPress 18 = .ok (.aload_n 0, 1) := dk_42 (dk_at dksX5_againstPress_0 18 rfl rfl)
theorem dX5_againstPress_19 : decode cX5_againstPress 19 = .ok (.iload_n 2, 1) := dk_28 (dk_at dksX5_againstPress_0 19 rfl rfl)
theorem dX5_againstPress_20 : decode cX5_againstPress 20 = .ok (.invokevirtual 72, 3) := dk_182 0 72 (dk_at dksX5_againstPress_0 20 rfl rfl)
theorem dX5_againstPress_23 : decode cX5_againstPress 23 = .ok (.ifCond .eq 8, 3) := dk_153 0 8 (dk_at dksX5_againstPress_1 0 rfl rfl)
theorem dX5_againstPress_26 : decode cX5_againstPress 26 = .ok (.bipush (-4), 2) := dk_16 252 (dk_at dksX5_againstPress_1 3 rfl rfl)
theorem dX5_againstPress_28 : decode cX5_againstPress 28 = .ok (.goto 18, 3) := dk_167 0 18 (dk_at dksX5_againstPress_1 5 rfl rfl)
theorem dX5_againstPress_31 : decode cX5_againstPress 31 = .ok (.aload_n 0, 1) := dk_42 (dk_at dksX5_againstPress_1 8 rfl rfl)
theorem dX5_againstPress_32 : decode cX5_againstPress 32 = .ok (.iload_n 1, 1) := dk_27 (dk_at dksX5_againstPress_1 9 rfl rfl)
theorem dX5_againstPress_33 : decode cX5_againstPress 33 = .ok (.invokevirtual 150, 3) := dk_182 0 150 (dk_at dksX5_againstPress_1 10 rfl rfl)
theorem dX5_againstPress_36 : decode cX5_againstPress 36 = .ok (.iconst 5, 1) := dk_8 (dk_at dksX5_againstPress_1 13 rfl rfl)
theorem dX5_againstPress_37 : decode cX5_againstPress 37 = .ok (.if_icmp .ne 8, 3) := dk_160 0 8 (dk_at dksX5_againstPress_1 14 rfl rfl)
theorem dX5_againstPress_40 : decode cX5_againstPress 40 = .ok (.bipush (-3), 2) := dk_16 253 (dk_at dksX5_againstPress_1 17 rfl rfl)
theorem dX5_againstPress_42 : decode cX5_againstPress 42 = .ok (.goto 4, 3) := dk_167 0 4 (dk_at dksX5_againstPress_1 19 rfl rfl)
theorem dX5_againstPress_45 : decode cX5_againstPress 45 = .ok (.iconst 0, 1) := dk_3 (dk_at dksX5_againstPress_1 22 rfl rfl)
theorem dX5_againstPress_46 : decode cX5_againstPress 46 = .ok (.ireturn, 1) := dk_172 (dk_at dksX5_againstPress_1 23 rfl rfl)
abbrev cX5_held : ByteArray := prog_11_method_36_code
def yX5_held : MethodName := ⟨RX5, "held", "(I)I"⟩
def dkwX5_held_1 : List UInt8 := [160, 0, 7, 4, 167, 0, 4, 3, 96, 61, 132, 3, 1, 167, 255, 224, 28, 172]
abbrev dktX5_held_1 : List UInt8 := dkwX5_held_1 ++ []
def dkwX5_held_0 : List UInt8 := [3, 61, 3, 62, 29, 42, 182, 0, 64, 162, 0, 30, 28, 42, 180, 0, 7, 16, 20, 29, 96, 46, 27]
abbrev dktX5_held_0 : List UInt8 := dkwX5_held_0 ++ dktX5_held_1
theorem dksX5_held_0 : cX5_held.data.toList.drop 0 = dktX5_held_0 := by decide +kernel
theorem dksX5_held_1 : cX5_held.data.toList.drop 23 = dktX5_held_1 := dk_seg dksX5_held_0 23 rfl rfl
theorem dX5_held_0 : decode cX5_held 0 = .ok (.iconst 0, 1) := dk_3 (dk_at dksX5_held_0 0 rfl rfl)
theorem dX5_held_1 : decode cX5_held 1 = .ok (.istore_n 2, 1) := dk_61 (dk_at dksX5_held_0 1 rfl rfl)
theorem dX5_held_2 : decode cX5_held 2 = .ok (.iconst 0, 1) := dk_3 (dk_at dksX5_held_0 2 rfl rfl)
theorem dX5_held_3 : decode cX5_held 3 = .ok (.istore_n 3, 1) := dk_62 (dk_at dksX5_held_0 3 rfl rfl)
theorem dX5_held_4 : decode cX5_held 4 = .ok (.iload_n 3, 1) := dk_29 (dk_at dksX5_held_0 4 rfl rfl)
theorem dX5_held_5 : decode cX5_held 5 = .ok (.aload_n 0, 1) := dk_42 (dk_at dksX5_held_0 5 rfl rfl)
theorem dX5_held_6 : decode cX5_held 6 = .ok (.invokevirtual 64, 3) := dk_182 0 64 (dk_at dksX5_held_0 6 rfl rfl)
theorem dX5_held_9 : decode cX5_held 9 = .ok (.if_icmp .ge 30, 3) := dk_162 0 30 (dk_at dksX5_held_0 9 rfl rfl)
theorem dX5_held_12 : decode cX5_held 12 = .ok (.iload_n 2, 1) := dk_28 (dk_at dksX5_held_0 12 rfl rfl)
theorem dX5_held_13 : decode cX5_held 13 = .ok (.aload_n 0, 1) := dk_42 (dk_at dksX5_held_0 13 rfl rfl)
theorem dX5_held_14 : decode cX5_held 14 = .ok (.getfield 7, 3) := dk_180 0 7 (dk_at dksX5_held_0 14 rfl rfl)
theorem dX5_held_17 : decode cX5_held 17 = .ok (.bipush 20, 2) := dk_16 20 (dk_at dksX5_held_0 17 rfl rfl)
theorem dX5_held_19 : decode cX5_held 19 = .ok (.iload_n 3, 1) := dk_29 (dk_at dksX5_held_0 19 rfl rfl)
theorem dX5_held_20 : decode cX5_held 20 = .ok (.iadd, 1) := dk_96 (dk_at dksX5_held_0 20 rfl rfl)
theorem dX5_held_21 : decode cX5_held 21 = .ok (.iaload, 1) := dk_46 (dk_at dksX5_held_0 21 rfl rfl)
theorem dX5_held_22 : decode cX5_held 22 = .ok (.iload_n 1, 1) := dk_27 (dk_at dksX5_held_0 22 rfl rfl)
theorem dX5_held_23 : decode cX5_held 23 = .ok (.if_icmp .ne 7, 3) := dk_160 0 7 (dk_at dksX5_held_1 0 rfl rfl)
theorem dX5_held_26 : decode cX5_held 26 = .ok (.iconst 1, 1) := dk_4 (dk_at dksX5_held_1 3 rfl rfl)
theorem dX5_held_27 : decode cX5_held 27 = .ok (.goto 4, 3) := dk_167 0 4 (dk_at dksX5_held_1 4 rfl rfl)
theorem dX5_held_30 : decode cX5_held 30 = .ok (.iconst 0, 1) := dk_3 (dk_at dksX5_held_1 7 rfl rfl)
theorem dX5_held_31 : decode cX5_held 31 = .ok (.iadd, 1) := dk_96 (dk_at dksX5_held_1 8 rfl rfl)
theorem dX5_held_32 : decode cX5_held 32 = .ok (.istore_n 2, 1) := dk_61 (dk_at dksX5_held_1 9 rfl rfl)
theorem dX5_held_33 : decode cX5_held 33 = .ok (.iinc 3 1, 3) := dk_132 3 1 (dk_at dksX5_held_1 10 rfl rfl)
theorem dX5_held_36 : decode cX5_held 36 = .ok (.goto (-32), 3) := dk_167 255 224 (dk_at dksX5_held_1 13 rfl rfl)
theorem dX5_held_39 : decode cX5_held 39 = .ok (.iload_n 2, 1) := dk_28 (dk_at dksX5_held_1 16 rfl rfl)
theorem dX5_held_40 : decode cX5_held 40 = .ok (.ireturn, 1) := dk_172 (dk_at dksX5_held_1 17 rfl rfl)
abbrev cX5_release : ByteArray := prog_11_method_40_code
def yX5_release : MethodName := ⟨RX5, "release", "(II)I"⟩
def dkwX5_release_1 : List UInt8 := [96, 16, 251, 79, 42, 27, 182, 0, 150, 172]
abbrev dktX5_release_1 : List UInt8 := dkwX5_release_1 ++ []
def dkwX5_release_0 : List UInt8 := [42, 27, 28, 182, 0, 156, 62, 29, 156, 0, 5, 29, 172, 42, 182, 0, 61, 42, 180, 0, 7, 16, 20, 28]
abbrev dktX5_release_0 : List UInt8 := dkwX5_release_0 ++ dktX5_release_1
theorem dksX5_release_0 : cX5_release.data.toList.drop 0 = dktX5_release_0 := by decide +kernel
theorem dksX5_release_1 : cX5_release.data.toList.drop 24 = dktX5_release_1 := dk_seg dksX5_release_0 24 rfl rfl
theorem dX5_release_0 : decode cX5_release 0 = .ok (.aload_n 0, 1) := dk_42 (dk_at dksX5_release_0 0 rfl rfl)
theorem dX5_release_1 : decode cX5_release 1 = .ok (.iload_n 1, 1) := dk_27 (dk_at dksX5_release_0 1 rfl rfl)
theorem dX5_release_2 : decode cX5_release 2 = .ok (.iload_n 2, 1) := dk_28 (dk_at dksX5_release_0 2 rfl rfl)
theorem dX5_release_3 : decode cX5_release 3 = .ok (.invokevirtual 156, 3) := dk_182 0 156 (dk_at dksX5_release_0 3 rfl rfl)
theorem dX5_release_6 : decode cX5_release 6 = .ok (.istore_n 3, 1) := dk_62 (dk_at dksX5_release_0 6 rfl rfl)
theorem dX5_release_7 : decode cX5_release 7 = .ok (.iload_n 3, 1) := dk_29 (dk_at dksX5_release_0 7 rfl rfl)
theorem dX5_release_8 : decode cX5_release 8 = .ok (.ifCond .ge 5, 3) := dk_156 0 5 (dk_at dksX5_release_0 8 rfl rfl)
theorem dX5_release_11 : decode cX5_release 11 = .ok (.iload_n 3, 1) := dk_29 (dk_at dksX5_release_0 11 rfl rfl)
theorem dX5_release_12 : decode cX5_release 12 = .ok (.ireturn, 1) := dk_172 (dk_at dksX5_release_0 12 rfl rfl)
theorem dX5_release_13 : decode cX5_release 13 = .ok (.aload_n 0, 1) := dk_42 (dk_at dksX5_release_0 13 rfl rfl)
theorem dX5_release_14 : decode cX5_release 14 = .ok (.invokevirtual 61, 3) := dk_182 0 61 (dk_at dksX5_release_0 14 rfl rfl)
theorem dX5_release_17 : decode cX5_release 17 = .ok (.aload_n 0, 1) := dk_42 (dk_at dksX5_release_0 17 rfl rfl)
theorem dX5_release_18 : decode cX5_release 18 = .ok (.getfield 7, 3) := dk_180 0 7 (dk_at dksX5_release_0 18 rfl rfl)
theorem dX5_release_21 : decode cX5_release 21 = .ok (.bipush 20, 2) := dk_16 20 (dk_at dksX5_release_0 21 rfl rfl)
theorem dX5_release_23 : decode cX5_release 23 = .ok (.iload_n 2, 1) := dk_28 (dk_at dksX5_release_0 23 rfl rfl)
theorem dX5_release_24 : decode cX5_release 24 = .ok (.iadd, 1) := dk_96 (dk_at dksX5_release_1 0 rfl rfl)
theorem dX5_release_25 : decode cX5_release 25 = .ok (.bipush (-5), 2) := dk_16 251 (dk_at dksX5_release_1 1 rfl rfl)
theorem dX5_release_27 : decode cX5_release 27 = .ok (.iastore, 1) := dk_79 (dk_at dksX5_release_1 3 rfl rfl)
theorem dX5_release_28 : decode cX5_release 28 = .ok (.aload_n 0, 1) := dk_42 (dk_at dksX5_release_1 4 rfl rfl)
theorem dX5_release_29 : decode cX5_release 29 = .ok (.iload_n 1, 1) := dk_27 (dk_at dksX5_release_1 5 rfl rfl)
theorem dX5_release_30 : decode cX5_release 30 = .ok (.invokevirtual 150, 3) := dk_182 0 150 (dk_at dksX5_release_1 6 rfl rfl)
theorem dX5_release_33 : decode cX5_release 33 = .ok (.ireturn, 1) := dk_172 (dk_at dksX5_release_1 9 rfl rfl)
abbrev cX5_againstRelease : ByteArray := prog_11_method_38_code
def yX5_againstRelease : MethodName := ⟨RX5, "againstRelease", "(II)I"⟩
def dkwX5_againstRelease_1 : List UInt8 := [28, 96, 46, 27, 160, 0, 7, 3, 167, 0, 5, 16, 252, 172]
abbrev dktX5_againstRelease_1 : List UInt8 := dkwX5_againstRelease_1 ++ []
def dkwX5_againstRelease_0 : List UInt8 := [42, 27, 182, 0, 86, 154, 0, 11, 42, 28, 182, 0, 79, 153, 0, 5, 2, 172, 42, 180, 0, 7, 16, 20]
abbrev dktX5_againstRelease_0 : List UInt8 := dkwX5_againstRelease_0 ++ dktX5_againstRelease_1
theorem dksX5_againstRelease_0 : cX5_againstRelease.data.toList.drop 0 = dktX5_againstRelease_0 := by decide +kernel
theorem dksX5_againstRelease_1 : cX5_againstRelease.data.toList.drop 24 = dktX5_againstRelease_1 := dk_seg dksX5_againstRelease_0 24 rfl rfl
theorem dX5_againstRelease_0 : decode cX5_againstRelease 0 = .ok (.aload_n 0, 1) := dk_42 (dk_at dksX5_againstRelease_0 0 rfl rfl)
theorem dX5_againstRelease_1 : decode cX5_againstRelease 1 = .ok (.iload_n 1, 1) := dk_27 (dk_at dksX5_againstRelease_0 1 rfl rfl)
theorem dX5_againstRelease_2 : decode cX5_againstRelease 2 = .ok (.invokevirtual 86, 3) := dk_182 0 86 (dk_at dksX5_againstRelease_0 2 rfl rfl)
theorem dX5_againstRelease_5 : decode cX5_againstRelease 5 = .ok (.ifCond .ne 11, 3) := dk_154 0 11 (dk_at dksX5_againstRelease_0 5 rfl rfl)
theorem dX5_againstRelease_8 : decode cX5_againstRelease 8 = .ok (.aload_n 0, 1) := dk_42 (dk_at dksX5_againstRelease_0 8 rfl rfl)
theorem dX5_againstRelease_9 : decode cX5_againstRelease 9 = .ok (.iload_n 2, 1) := dk_28 (dk_at dksX5_againstRelease_0 9 rfl rfl)
theorem dX5_againstRelease_10 : decode cX5_againstRelease 10 = .ok (.invokevirtual 79, 3) := dk_182 0 79 (dk_at dksX5_againstRelease_0 10 rfl rfl)
theorem dX5_againstRelease_13 : decode cX5_againstRelease 13 = .ok (.ifCond .eq 5, 3) := dk_153 0 5 (dk_at dksX5_againstRelease_0 13 rfl rfl)
theorem dX5_againstRelease_16 : decode cX5_againstRelease 16 = .ok (.iconst (-1), 1) := dk_2 (dk_at dksX5_againstRelease_0 16 rfl rfl)
theorem dX5_againstRelease_17 : decode cX5_againstRelease 17 = .ok (.ireturn, 1) := dk_172 (dk_at dksX5_againstRelease_0 17 rfl rfl)
theorem dX5_againstRelease_18 : decode cX5_againstRelease 18 = .ok (.aload_n 0, 1) := dk_42 (dk_at dksX5_againstRelease_0 18 rfl rfl)
theorem dX5_againstRelease_19 : decode cX5_againstRelease 19 = .ok (.getfield 7, 3) := dk_180 0 7 (dk_at dksX5_againstRelease_0 19 rfl rfl)
theorem dX5_againstRelease_22 : decode cX5_againstRelease 22 = .ok (.bipush 20, 2) := dk_16 20 (dk_at dksX5_againstRelease_0 22 rfl rfl)
theorem dX5_againstRelease_24 : decode cX5_againstRelease 24 = .ok (.iload_n 2, 1) := dk_28 (dk_at dksX5_againstRelease_1 0 rfl rfl)
theorem dX5_againstRelease_25 : decode cX5_againstRelease 25 = .ok (.iadd, 1) := dk_96 (dk_at dksX5_againstRelease_1 1 rfl rfl)
theorem dX5_againstRelease_26 : decode cX5_againstRelease 26 = .ok (.iaload, 1) := dk_46 (dk_at dksX5_againstRelease_1 2 rfl rfl)
theorem dX5_againstRelease_27 : decode cX5_againstRelease 27 = .ok (.iload_n 1, 1) := dk_27 (dk_at dksX5_againstRelease_1 3 rfl rfl)
theorem dX5_againstRelease_28 : decode cX5_againstRelease 28 = .ok (.if_icmp .ne 7, 3) := dk_160 0 7 (dk_at dksX5_againstRelease_1 4 rfl rfl)
theorem dX5_againstRelease_31 : decode cX5_againstRelease 31 = .ok (.iconst 0, 1) := dk_3 (dk_at dksX5_againstRelease_1 7 rfl rfl)
theorem dX5_againstRelease_32 : decode cX5_againstRelease 32 = .ok (.goto 5, 3) := dk_167 0 5 (dk_at dksX5_againstRelease_1 8 rfl rfl)
theorem dX5_againstRelease_35 : decode cX5_againstRelease 35 = .ok (.bipush (-4), 2) := dk_16 252 (dk_at dksX5_againstRelease_1 11 rfl rfl)
theorem dX5_againstRelease_37 : decode cX5_againstRelease 37 = .ok (.ireturn, 1) := dk_172 (dk_at dksX5_againstRelease_1 13 rfl rfl)
abbrev cX5_tick : ByteArray := prog_11_method_42_code
def yX5_tick : MethodName := ⟨RX5, "tick", "(I)I"⟩
def dkwX5_tick_0 : List UInt8 := [27, 4, 16, 99, 184, 0, 68, 154, 0, 6, 16, 254, 172, 42, 182, 0, 61, 42, 27, 182, 0, 162, 172]
abbrev dktX5_tick_0 : List UInt8 := dkwX5_tick_0 ++ []
theorem dksX5_tick_0 : cX5_tick.data.toList.drop 0 = dktX5_tick_0 := by decide +kernel
theorem dX5_tick_0 : decode cX5_tick 0 = .ok (.iload_n 1, 1) := dk_27 (dk_at dksX5_tick_0 0 rfl rfl)
theorem dX5_tick_1 : decode cX5_tick 1 = .ok (.iconst 1, 1) := dk_4 (dk_at dksX5_tick_0 1 rfl rfl)
theorem dX5_tick_2 : decode cX5_tick 2 = .ok (.bipush 99, 2) := dk_16 99 (dk_at dksX5_tick_0 2 rfl rfl)
theorem dX5_tick_4 : decode cX5_tick 4 = .ok (.invokestatic 68, 3) := dk_184 0 68 (dk_at dksX5_tick_0 4 rfl rfl)
theorem dX5_tick_7 : decode cX5_tick 7 = .ok (.ifCond .ne 6, 3) := dk_154 0 6 (dk_at dksX5_tick_0 7 rfl rfl)
theorem dX5_tick_10 : decode cX5_tick 10 = .ok (.bipush (-2), 2) := dk_16 254 (dk_at dksX5_tick_0 10 rfl rfl)
theorem dX5_tick_12 : decode cX5_tick 12 = .ok (.ireturn, 1) := dk_172 (dk_at dksX5_tick_0 12 rfl rfl)
theorem dX5_tick_13 : decode cX5_tick 13 = .ok (.aload_n 0, 1) := dk_42 (dk_at dksX5_tick_0 13 rfl rfl)
theorem dX5_tick_14 : decode cX5_tick 14 = .ok (.invokevirtual 61, 3) := dk_182 0 61 (dk_at dksX5_tick_0 14 rfl rfl)
theorem dX5_tick_17 : decode cX5_tick 17 = .ok (.aload_n 0, 1) := dk_42 (dk_at dksX5_tick_0 17 rfl rfl)
theorem dX5_tick_18 : decode cX5_tick 18 = .ok (.iload_n 1, 1) := dk_27 (dk_at dksX5_tick_0 18 rfl rfl)
theorem dX5_tick_19 : decode cX5_tick 19 = .ok (.invokevirtual 162, 3) := dk_182 0 162 (dk_at dksX5_tick_0 19 rfl rfl)
theorem dX5_tick_22 : decode cX5_tick 22 = .ok (.ireturn, 1) := dk_172 (dk_at dksX5_tick_0 22 rfl rfl)
abbrev cX5_steps : ByteArray := prog_11_method_41_code
def yX5_steps : MethodName := ⟨RX5, "steps", "(I)I"⟩
def dkwX5_steps_0 : List UInt8 := [3, 61, 3, 62, 29, 27, 162, 0, 16, 28, 42, 182, 0, 159, 96, 61, 132, 3, 1, 167, 255, 241, 28, 172]
abbrev dktX5_steps_0 : List UInt8 := dkwX5_steps_0 ++ []
theorem dksX5_steps_0 : cX5_steps.data.toList.drop 0 = dktX5_steps_0 := by decide +kernel
theorem dX5_steps_0 : decode cX5_steps 0 = .ok (.iconst 0, 1) := dk_3 (dk_at dksX5_steps_0 0 rfl rfl)
theorem dX5_steps_1 : decode cX5_steps 1 = .ok (.istore_n 2, 1) := dk_61 (dk_at dksX5_steps_0 1 rfl rfl)
theorem dX5_steps_2 : decode cX5_steps 2 = .ok (.iconst 0, 1) := dk_3 (dk_at dksX5_steps_0 2 rfl rfl)
theorem dX5_steps_3 : decode cX5_steps 3 = .ok (.istore_n 3, 1) := dk_62 (dk_at dksX5_steps_0 3 rfl rfl)
theorem dX5_steps_4 : decode cX5_steps 4 = .ok (.iload_n 3, 1) := dk_29 (dk_at dksX5_steps_0 4 rfl rfl)
theorem dX5_steps_5 : decode cX5_steps 5 = .ok (.iload_n 1, 1) := dk_27 (dk_at dksX5_steps_0 5 rfl rfl)
theorem dX5_steps_6 : decode cX5_steps 6 = .ok (.if_icmp .ge 16, 3) := dk_162 0 16 (dk_at dksX5_steps_0 6 rfl rfl)
theorem dX5_steps_9 : decode cX5_steps 9 = .ok (.iload_n 2, 1) := dk_28 (dk_at dksX5_steps_0 9 rfl rfl)
theorem dX5_steps_10 : decode cX5_steps 10 = .ok (.aload_n 0, 1) := dk_42 (dk_at dksX5_steps_0 10 rfl rfl)
theorem dX5_steps_11 : decode cX5_steps 11 = .ok (.invokevirtual 159, 3) := dk_182 0 159 (dk_at dksX5_steps_0 11 rfl rfl)
theorem dX5_steps_14 : decode cX5_steps 14 = .ok (.iadd, 1) := dk_96 (dk_at dksX5_steps_0 14 rfl rfl)
theorem dX5_steps_15 : decode cX5_steps 15 = .ok (.istore_n 2, 1) := dk_61 (dk_at dksX5_steps_0 15 rfl rfl)
theorem dX5_steps_16 : decode cX5_steps 16 = .ok (.iinc 3 1, 3) := dk_132 3 1 (dk_at dksX5_steps_0 16 rfl rfl)
theorem dX5_steps_19 : decode cX5_steps 19 = .ok (.goto (-15), 3) := dk_167 255 241 (dk_at dksX5_steps_0 19 rfl rfl)
theorem dX5_steps_22 : decode cX5_steps 22 = .ok (.iload_n 2, 1) := dk_28 (dk_at dksX5_steps_0 22 rfl rfl)
theorem dX5_steps_23 : decode cX5_steps 23 = .ok (.ireturn, 1) := dk_172 (dk_at dksX5_steps_0 23 rfl rfl)
abbrev cX5_step : ByteArray := prog_11_method_26_code
def yX5_step : MethodName := ⟨RX5, "step", "()I"⟩
def dkwX5_step_12 : List UInt8 := [21, 6, 96, 46, 79, 132, 6, 1, 167, 255, 171, 42, 180, 0, 7, 5, 92, 46, 4, 96, 79, 21, 4, 172]
abbrev dktX5_step_12 : List UInt8 := dkwX5_step_12 ++ []
def dkwX5_step_11 : List UInt8 := [3, 96, 79, 42, 180, 0, 7, 17, 0, 212, 28, 96, 21, 6, 96, 42, 180, 0, 7, 16, 20, 28, 96]
abbrev dktX5_step_11 : List UInt8 := dkwX5_step_11 ++ dktX5_step_12
def dkwX5_step_10 : List UInt8 := [3, 182, 0, 117, 153, 0, 7, 4, 167, 0, 4, 3, 42, 4, 182, 0, 117, 153, 0, 7, 5, 167, 0, 4]
abbrev dktX5_step_10 : List UInt8 := dkwX5_step_10 ++ dktX5_step_11
def dkwX5_step_9 : List UInt8 := [21, 5, 21, 6, 122, 4, 126, 4, 160, 0, 68, 42, 180, 0, 7, 17, 0, 164, 28, 96, 21, 6, 96, 42]
abbrev dktX5_step_9 : List UInt8 := dkwX5_step_9 ++ dktX5_step_10
def dkwX5_step_8 : List UInt8 := [153, 0, 7, 4, 167, 0, 4, 3, 79, 132, 6, 1, 167, 255, 208, 3, 54, 6, 21, 6, 27, 162, 0, 85]
abbrev dktX5_step_8 : List UInt8 := dkwX5_step_8 ++ dktX5_step_9
def dkwX5_step_7 : List UInt8 := [126, 4, 160, 0, 31, 42, 180, 0, 7, 16, 116, 28, 96, 21, 6, 96, 42, 28, 21, 6, 96, 182, 0, 114]
abbrev dktX5_step_7 : List UInt8 := dkwX5_step_7 ++ dktX5_step_8
def dkwX5_step_6 : List UInt8 := [128, 54, 5, 132, 6, 1, 167, 255, 199, 3, 54, 6, 21, 6, 27, 162, 0, 48, 21, 5, 21, 6, 122, 4]
abbrev dktX5_step_6 : List UInt8 := dkwX5_step_6 ++ dktX5_step_7
def dkwX5_step_5 : List UInt8 := [42, 180, 0, 7, 16, 68, 28, 96, 21, 6, 96, 42, 180, 0, 7, 5, 46, 79, 21, 5, 4, 21, 6, 120]
abbrev dktX5_step_5 : List UInt8 := dkwX5_step_5 ++ dktX5_step_6
def dkwX5_step_4 : List UInt8 := [162, 0, 57, 42, 28, 21, 6, 96, 182, 0, 76, 154, 0, 40, 29, 21, 6, 122, 4, 126, 4, 160, 0, 30]
abbrev dktX5_step_4 : List UInt8 := dkwX5_step_4 ++ dktX5_step_5
def dkwX5_step_3 : List UInt8 := [28, 21, 6, 96, 182, 0, 111, 132, 4, 1, 132, 6, 1, 167, 255, 216, 3, 54, 6, 21, 6, 27]
abbrev dktX5_step_3 : List UInt8 := dkwX5_step_3 ++ dktX5_step_4
def dkwX5_step_2 : List UInt8 := [162, 0, 40, 42, 28, 21, 6, 96, 182, 0, 76, 153, 0, 23, 29, 21, 6, 122, 4, 126, 154, 0, 14, 42]
abbrev dktX5_step_2 : List UInt8 := dkwX5_step_2 ++ dktX5_step_3
def dkwX5_step_1 : List UInt8 := [28, 27, 108, 182, 0, 107, 42, 180, 0, 104, 62, 3, 54, 4, 3, 54, 5, 3, 54, 6, 21, 6, 27]
abbrev dktX5_step_1 : List UInt8 := dkwX5_step_1 ++ dktX5_step_2
def dkwX5_step_0 : List UInt8 := [42, 180, 0, 7, 4, 46, 60, 42, 180, 0, 7, 5, 46, 42, 180, 0, 7, 3, 46, 112, 27, 104, 61, 42]
abbrev dktX5_step_0 : List UInt8 := dkwX5_step_0 ++ dktX5_step_1
theorem dksX5_step_0 : cX5_step.data.toList.drop 0 = dktX5_step_0 := by decide +kernel
theorem dksX5_step_1 : cX5_step.data.toList.drop 24 = dktX5_step_1 := dk_seg dksX5_step_0 24 rfl rfl
theorem dksX5_step_2 : cX5_step.data.toList.drop 47 = dktX5_step_2 := dk_seg dksX5_step_1 23 rfl rfl
theorem dksX5_step_3 : cX5_step.data.toList.drop 71 = dktX5_step_3 := dk_seg dksX5_step_2 24 rfl rfl
theorem dksX5_step_4 : cX5_step.data.toList.drop 93 = dktX5_step_4 := dk_seg dksX5_step_3 22 rfl rfl
theorem dksX5_step_5 : cX5_step.data.toList.drop 117 = dktX5_step_5 := dk_seg dksX5_step_4 24 rfl rfl
theorem dksX5_step_6 : cX5_step.data.toList.drop 141 = dktX5_step_6 := dk_seg dksX5_step_5 24 rfl rfl
theorem dksX5_step_7 : cX5_step.data.toList.drop 165 = dktX5_step_7 := dk_seg dksX5_step_6 24 rfl rfl
theorem dksX5_step_8 : cX5_step.data.toList.drop 189 = dktX5_step_8 := dk_seg dksX5_step_7 24 rfl rfl
theorem dksX5_step_9 : cX5_step.data.toList.drop 213 = dktX5_step_9 := dk_seg dksX5_step_8 24 rfl rfl
theorem dksX5_step_10 : cX5_step.data.toList.drop 237 = dktX5_step_10 := dk_seg dksX5_step_9 24 rfl rfl
theorem dksX5_step_11 : cX5_step.data.toList.drop 261 = dktX5_step_11 := dk_seg dksX5_step_10 24 rfl rfl
theorem dksX5_step_12 : cX5_step.data.toList.drop 284 = dktX5_step_12 := dk_seg dksX5_step_11 23 rfl rfl
theorem dX5_step_0 : decode cX5_step 0 = .ok (.aload_n 0, 1) := dk_42 (dk_at dksX5_step_0 0 rfl rfl)
theorem dX5_step_1 : decode cX5_step 1 = .ok (.getfield 7, 3) := dk_180 0 7 (dk_at dksX5_step_0 1 rfl rfl)
theorem dX5_step_4 : decode cX5_step 4 = .ok (.iconst 1, 1) := dk_4 (dk_at dksX5_step_0 4 rfl rfl)
theorem dX5_step_5 : decode cX5_step 5 = .ok (.iaload, 1) := dk_46 (dk_at dksX5_step_0 5 rfl rfl)
theorem dX5_step_6 : decode cX5_step 6 = .ok (.istore_n 1, 1) := dk_60 (dk_at dksX5_step_0 6 rfl rfl)
theorem dX5_step_7 : decode cX5_step 7 = .ok (.aload_n 0, 1) := dk_42 (dk_at dksX5_step_0 7 rfl rfl)
theorem dX5_step_8 : decode cX5_step 8 = .ok (.getfield 7, 3) := dk_180 0 7 (dk_at dksX5_step_0 8 rfl rfl)
theorem dX5_step_11 : decode cX5_step 11 = .ok (.iconst 2, 1) := dk_5 (dk_at dksX5_step_0 11 rfl rfl)
theorem dX5_step_12 : decode cX5_step 12 = .ok (.iaload, 1) := dk_46 (dk_at dksX5_step_0 12 rfl rfl)
theorem dX5_step_13 : decode cX5_step 13 = .ok (.aload_n 0, 1) := dk_42 (dk_at dksX5_step_0 13 rfl rfl)
theorem dX5_step_14 : decode cX5_step 14 = .ok (.getfield 7, 3) := dk_180 0 7 (dk_at dksX5_step_0 14 rfl rfl)
theorem dX5_step_17 : decode cX5_step 17 = .ok (.iconst 0, 1) := dk_3 (dk_at dksX5_step_0 17 rfl rfl)
theorem dX5_step_18 : decode cX5_step 18 = .ok (.iaload, 1) := dk_46 (dk_at dksX5_step_0 18 rfl rfl)
theorem dX5_step_19 : decode cX5_step 19 = .ok (.irem, 1) := dk_112 (dk_at dksX5_step_0 19 rfl rfl)
theorem dX5_step_20 : decode cX5_step 20 = .ok (.iload_n 1, 1) := dk_27 (dk_at dksX5_step_0 20 rfl rfl)
theorem dX5_step_21 : decode cX5_step 21 = .ok (.imul, 1) := dk_104 (dk_at dksX5_step_0 21 rfl rfl)
theorem dX5_step_22 : decode cX5_step 22 = .ok (.istore_n 2, 1) := dk_61 (dk_at dksX5_step_0 22 rfl rfl)
theorem dX5_step_23 : decode cX5_step 23 = .ok (.aload_n 0, 1) := dk_42 (dk_at dksX5_step_0 23 rfl rfl)
theorem dX5_step_24 : decode cX5_step 24 = .ok (.iload_n 2, 1) := dk_28 (dk_at dksX5_step_1 0 rfl rfl)
theorem dX5_step_25 : decode cX5_step 25 = .ok (.iload_n 1, 1) := dk_27 (dk_at dksX5_step_1 1 rfl rfl)
theorem dX5_step_26 : decode cX5_step 26 = .ok (.idiv, 1) := dk_108 (dk_at dksX5_step_1 2 rfl rfl)
theorem dX5_step_27 : decode cX5_step 27 = .ok (.invokevirtual 107, 3) := dk_182 0 107 (dk_at dksX5_step_1 3 rfl rfl)
theorem dX5_step_30 : decode cX5_step 30 = .ok (.aload_n 0, 1) := dk_42 (dk_at dksX5_step_1 6 rfl rfl)
theorem dX5_step_31 : decode cX5_step 31 = .ok (.getfield 104, 3) := dk_180 0 104 (dk_at dksX5_step_1 7 rfl rfl)
theorem dX5_step_34 : decode cX5_step 34 = .ok (.istore_n 3, 1) := dk_62 (dk_at dksX5_step_1 10 rfl rfl)
theorem dX5_step_35 : decode cX5_step 35 = .ok (.iconst 0, 1) := dk_3 (dk_at dksX5_step_1 11 rfl rfl)
theorem dX5_step_36 : decode cX5_step 36 = .ok (.istore 4, 2) := dk_54 4 (dk_at dksX5_step_1 12 rfl rfl)
theorem dX5_step_38 : decode cX5_step 38 = .ok (.iconst 0, 1) := dk_3 (dk_at dksX5_step_1 14 rfl rfl)
theorem dX5_step_39 : decode cX5_step 39 = .ok (.istore 5, 2) := dk_54 5 (dk_at dksX5_step_1 15 rfl rfl)
theorem dX5_step_41 : decode cX5_step 41 = .ok (.iconst 0, 1) := dk_3 (dk_at dksX5_step_1 17 rfl rfl)
theorem dX5_step_42 : decode cX5_step 42 = .ok (.istore 6, 2) := dk_54 6 (dk_at dksX5_step_1 18 rfl rfl)
theorem dX5_step_44 : decode cX5_step 44 = .ok (.iload 6, 2) := dk_21 6 (dk_at dksX5_step_1 20 rfl rfl)
theorem dX5_step_46 : decode cX5_step 46 = .ok (.iload_n 1, 1) := dk_27 (dk_at dksX5_step_1 22 rfl rfl)
theorem dX5_step_47 : decode cX5_step 47 = .ok (.if_icmp .ge 40, 3) := dk_162 0 40 (dk_at dksX5_step_2 0 rfl rfl)
theorem dX5_step_50 : decode cX5_step 50 = .ok (.aload_n 0, 1) := dk_42 (dk_at dksX5_step_2 3 rfl rfl)
theorem dX5_step_51 : decode cX5_step 51 = .ok (.iload_n 2, 1) := dk_28 (dk_at dksX5_step_2 4 rfl rfl)
theorem dX5_step_52 : decode cX5_step 52 = .ok (.iload 6, 2) := dk_21 6 (dk_at dksX5_step_2 5 rfl rfl)
theorem dX5_step_54 : decode cX5_step 54 = .ok (.iadd, 1) := dk_96 (dk_at dksX5_step_2 7 rfl rfl)
theorem dX5_step_55 : decode cX5_step 55 = .ok (.invokevirtual 76, 3) := dk_182 0 76 (dk_at dksX5_step_2 8 rfl rfl)
theorem dX5_step_58 : decode cX5_step 58 = .ok (.ifCond .eq 23, 3) := dk_153 0 23 (dk_at dksX5_step_2 11 rfl rfl)
theorem dX5_step_61 : decode cX5_step 61 = .ok (.iload_n 3, 1) := dk_29 (dk_at dksX5_step_2 14 rfl rfl)
theorem dX5_step_62 : decode cX5_step 62 = .ok (.iload 6, 2) := dk_21 6 (dk_at dksX5_step_2 15 rfl rfl)
theorem dX5_step_64 : decode cX5_step 64 = .ok (.ishr, 1) := dk_122 (dk_at dksX5_step_2 17 rfl rfl)
theorem dX5_step_65 : decode cX5_step 65 = .ok (.iconst 1, 1) := dk_4 (dk_at dksX5_step_2 18 rfl rfl)
theorem dX5_step_66 : decode cX5_step 66 = .ok (.iand, 1) := dk_126 (dk_at dksX5_step_2 19 rfl rfl)
theorem dX5_step_67 : decode cX5_step 67 = .ok (.ifCond .ne 14, 3) := dk_154 0 14 (dk_at dksX5_step_2 20 rfl rfl)
theorem dX5_step_70 : decode cX5_step 70 = .ok (.aload_n 0, 1) := dk_42 (dk_at dksX5_step_2 23 rfl rfl)
theorem dX5_step_71 : decode cX5_step 71 = .ok (.iload_n 2, 1) := dk_28 (dk_at dksX5_step_3 0 rfl rfl)
theorem dX5_step_72 : decode cX5_step 72 = .ok (.iload 6, 2) := dk_21 6 (dk_at dksX5_step_3 1 rfl rfl)
theorem dX5_step_74 : decode cX5_step 74 = .ok (.iadd, 1) := dk_96 (dk_at dksX5_step_3 3 rfl rfl)
theorem dX5_step_75 : decode cX5_step 75 = .ok (.invokevirtual 111, 3) := dk_182 0 111 (dk_at dksX5_step_3 4 rfl rfl)
theorem dX5_step_78 : decode cX5_step 78 = .ok (.iinc 4 1, 3) := dk_132 4 1 (dk_at dksX5_step_3 7 rfl rfl)
theorem dX5_step_81 : decode cX5_step 81 = .ok (.iinc 6 1, 3) := dk_132 6 1 (dk_at dksX5_step_3 10 rfl rfl)
theorem dX5_step_84 : decode cX5_step 84 = .ok (.goto (-40), 3) := dk_167 255 216 (dk_at dksX5_step_3 13 rfl rfl)
theorem dX5_step_87 : decode cX5_step 87 = .ok (.iconst 0, 1) := dk_3 (dk_at dksX5_step_3 16 rfl rfl)
theorem dX5_step_88 : decode cX5_step 88 = .ok (.istore 6, 2) := dk_54 6 (dk_at dksX5_step_3 17 rfl rfl)
theorem dX5_step_90 : decode cX5_step 90 = .ok (.iload 6, 2) := dk_21 6 (dk_at dksX5_step_3 19 rfl rfl)
theorem dX5_step_92 : decode cX5_step 92 = .ok (.iload_n 1, 1) := dk_27 (dk_at dksX5_step_3 21 rfl rfl)
theorem dX5_step_93 : decode cX5_step 93 = .ok (.if_icmp .ge 57, 3) := dk_162 0 57 (dk_at dksX5_step_4 0 rfl rfl)
theorem dX5_step_96 : decode cX5_step 96 = .ok (.aload_n 0, 1) := dk_42 (dk_at dksX5_step_4 3 rfl rfl)
theorem dX5_step_97 : decode cX5_step 97 = .ok (.iload_n 2, 1) := dk_28 (dk_at dksX5_step_4 4 rfl rfl)
theorem dX5_step_98 : decode cX5_step 98 = .ok (.iload 6, 2) := dk_21 6 (dk_at dksX5_step_4 5 rfl rfl)
theorem dX5_step_100 : decode cX5_step 100 = .ok (.iadd, 1) := dk_96 (dk_at dksX5_step_4 7 rfl rfl)
theorem dX5_step_101 : decode cX5_step 101 = .ok (.invokevirtual 76, 3) := dk_182 0 76 (dk_at dksX5_step_4 8 rfl rfl)
theorem dX5_step_104 : decode cX5_step 104 = .ok (.ifCond .ne 40, 3) := dk_154 0 40 (dk_at dksX5_step_4 11 rfl rfl)
theorem dX5_step_107 : decode cX5_step 107 = .ok (.iload_n 3, 1) := dk_29 (dk_at dksX5_step_4 14 rfl rfl)
theorem dX5_step_108 : decode cX5_step 108 = .ok (.iload 6, 2) := dk_21 6 (dk_at dksX5_step_4 15 rfl rfl)
theorem dX5_step_110 : decode cX5_step 110 = .ok (.ishr, 1) := dk_122 (dk_at dksX5_step_4 17 rfl rfl)
theorem dX5_step_111 : decode cX5_step 111 = .ok (.iconst 1, 1) := dk_4 (dk_at dksX5_step_4 18 rfl rfl)
theorem dX5_step_112 : decode cX5_step 112 = .ok (.iand, 1) := dk_126 (dk_at dksX5_step_4 19 rfl rfl)
theorem dX5_step_113 : decode cX5_step 113 = .ok (.iconst 1, 1) := dk_4 (dk_at dksX5_step_4 20 rfl rfl)
theorem dX5_step_114 : decode cX5_step 114 = .ok (.if_icmp .ne 30, 3) := dk_160 0 30 (dk_at dksX5_step_4 21 rfl rfl)
theorem dX5_step_117 : decode cX5_step 117 = .ok (.aload_n 0, 1) := dk_42 (dk_at dksX5_step_5 0 rfl rfl)
theorem dX5_step_118 : decode cX5_step 118 = .ok (.getfield 7, 3) := dk_180 0 7 (dk_at dksX5_step_5 1 rfl rfl)
theorem dX5_step_121 : decode cX5_step 121 = .ok (.bipush 68, 2) := dk_16 68 (dk_at dksX5_step_5 4 rfl rfl)
theorem dX5_step_123 : decode cX5_step 123 = .ok (.iload_n 2, 1) := dk_28 (dk_at dksX5_step_5 6 rfl rfl)
theorem dX5_step_124 : decode cX5_step 124 = .ok (.iadd, 1) := dk_96 (dk_at dksX5_step_5 7 rfl rfl)
theorem dX5_step_125 : decode cX5_step 125 = .ok (.iload 6, 2) := dk_21 6 (dk_at dksX5_step_5 8 rfl rfl)
theorem dX5_step_127 : decode cX5_step 127 = .ok (.iadd, 1) := dk_96 (dk_at dksX5_step_5 10 rfl rfl)
theorem dX5_step_128 : decode cX5_step 128 = .ok (.aload_n 0, 1) := dk_42 (dk_at dksX5_step_5 11 rfl rfl)
theorem dX5_step_129 : decode cX5_step 129 = .ok (.getfield 7, 3) := dk_180 0 7 (dk_at dksX5_step_5 12 rfl rfl)
theorem dX5_step_132 : decode cX5_step 132 = .ok (.iconst 2, 1) := dk_5 (dk_at dksX5_step_5 15 rfl rfl)
theorem dX5_step_133 : decode cX5_step 133 = .ok (.iaload, 1) := dk_46 (dk_at dksX5_step_5 16 rfl rfl)
theorem dX5_step_134 : decode cX5_step 134 = .ok (.iastore, 1) := dk_79 (dk_at dksX5_step_5 17 rfl rfl)
theorem dX5_step_135 : decode cX5_step 135 = .ok (.iload 5, 2) := dk_21 5 (dk_at dksX5_step_5 18 rfl rfl)
theorem dX5_step_137 : decode cX5_step 137 = .ok (.iconst 1, 1) := dk_4 (dk_at dksX5_step_5 20 rfl rfl)
theorem dX5_step_138 : decode cX5_step 138 = .ok (.iload 6, 2) := dk_21 6 (dk_at dksX5_step_5 21 rfl rfl)
theorem dX5_step_140 : decode cX5_step 140 = .ok (.ishl, 1) := dk_120 (dk_at dksX5_step_5 23 rfl rfl)
theorem dX5_step_141 : decode cX5_step 141 = .ok (.ior, 1) := dk_128 (dk_at dksX5_step_6 0 rfl rfl)
theorem dX5_step_142 : decode cX5_step 142 = .ok (.istore 5, 2) := dk_54 5 (dk_at dksX5_step_6 1 rfl rfl)
theorem dX5_step_144 : decode cX5_step 144 = .ok (.iinc 6 1, 3) := dk_132 6 1 (dk_at dksX5_step_6 3 rfl rfl)
theorem dX5_step_147 : decode cX5_step 147 = .ok (.goto (-57), 3) := dk_167 255 199 (dk_at dksX5_step_6 6 rfl rfl)
theorem dX5_step_150 : decode cX5_step 150 = .ok (.iconst 0, 1) := dk_3 (dk_at dksX5_step_6 9 rfl rfl)
theorem dX5_step_151 : decode cX5_step 151 = .ok (.istore 6, 2) := dk_54 6 (dk_at dksX5_step_6 10 rfl rfl)
theorem dX5_step_153 : decode cX5_step 153 = .ok (.iload 6, 2) := dk_21 6 (dk_at dksX5_step_6 12 rfl rfl)
theorem dX5_step_155 : decode cX5_step 155 = .ok (.iload_n 1, 1) := dk_27 (dk_at dksX5_step_6 14 rfl rfl)
theorem dX5_step_156 : decode cX5_step 156 = .ok (.if_icmp .ge 48, 3) := dk_162 0 48 (dk_at dksX5_step_6 15 rfl rfl)
theorem dX5_step_159 : decode cX5_step 159 = .ok (.iload 5, 2) := dk_21 5 (dk_at dksX5_step_6 18 rfl rfl)
theorem dX5_step_161 : decode cX5_step 161 = .ok (.iload 6, 2) := dk_21 6 (dk_at dksX5_step_6 20 rfl rfl)
theorem dX5_step_163 : decode cX5_step 163 = .ok (.ishr, 1) := dk_122 (dk_at dksX5_step_6 22 rfl rfl)
theorem dX5_step_164 : decode cX5_step 164 = .ok (.iconst 1, 1) := dk_4 (dk_at dksX5_step_6 23 rfl rfl)
theorem dX5_step_165 : decode cX5_step 165 = .ok (.iand, 1) := dk_126 (dk_at dksX5_step_7 0 rfl rfl)
theorem dX5_step_166 : decode cX5_step 166 = .ok (.iconst 1, 1) := dk_4 (dk_at dksX5_step_7 1 rfl rfl)
theorem dX5_step_167 : decode cX5_step 167 = .ok (.if_icmp .ne 31, 3) := dk_160 0 31 (dk_at dksX5_step_7 2 rfl rfl)
theorem dX5_step_170 : decode cX5_step 170 = .ok (.aload_n 0, 1) := dk_42 (dk_at dksX5_step_7 5 rfl rfl)
theorem dX5_step_171 : decode cX5_step 171 = .ok (.getfield 7, 3) := dk_180 0 7 (dk_at dksX5_step_7 6 rfl rfl)
theorem dX5_step_174 : decode cX5_step 174 = .ok (.bipush 116, 2) := dk_16 116 (dk_at dksX5_step_7 9 rfl rfl)
theorem dX5_step_176 : decode cX5_step 176 = .ok (.iload_n 2, 1) := dk_28 (dk_at dksX5_step_7 11 rfl rfl)
theorem dX5_step_177 : decode cX5_step 177 = .ok (.iadd, 1) := dk_96 (dk_at dksX5_step_7 12 rfl rfl)
theorem dX5_step_178 : decode cX5_step 178 = .ok (.iload 6, 2) := dk_21 6 (dk_at dksX5_step_7 13 rfl rfl)
theorem dX5_step_180 : decode cX5_step 180 = .ok (.iadd, 1) := dk_96 (dk_at dksX5_step_7 15 rfl rfl)
theorem dX5_step_181 : decode cX5_step 181 = .ok (.aload_n 0, 1) := dk_42 (dk_at dksX5_step_7 16 rfl rfl)
theorem dX5_step_182 : decode cX5_step 182 = .ok (.iload_n 2, 1) := dk_28 (dk_at dksX5_step_7 17 rfl rfl)
theorem dX5_step_183 : decode cX5_step 183 = .ok (.iload 6, 2) := dk_21 6 (dk_at dksX5_step_7 18 rfl rfl)
theorem dX5_step_185 : decode cX5_step 185 = .ok (.iadd, 1) := dk_96 (dk_at dksX5_step_7 20 rfl rfl)
theorem dX5_step_186 : decode cX5_step 186 = .ok (.invokevirtual 114, 3) := dk_182 0 114 (dk_at dksX5_step_7 21 rfl rfl)
theorem dX5_step_189 : decode cX5_step 189 = .ok (.ifCond .eq 7, 3) := dk_153 0 7 (dk_at dksX5_step_8 0 rfl rfl)
theorem dX5_step_192 : decode cX5_step 192 = .ok (.iconst 1, 1) := dk_4 (dk_at dksX5_step_8 3 rfl rfl)
theorem dX5_step_193 : decode cX5_step 193 = .ok (.goto 4, 3) := dk_167 0 4 (dk_at dksX5_step_8 4 rfl rfl)
theorem dX5_step_196 : decode cX5_step 196 = .ok (.iconst 0, 1) := dk_3 (dk_at dksX5_step_8 7 rfl rfl)
theorem dX5_step_197 : decode cX5_step 197 = .ok (.iastore, 1) := dk_79 (dk_at dksX5_step_8 8 rfl rfl)
theorem dX5_step_198 : decode cX5_step 198 = .ok (.iinc 6 1, 3) := dk_132 6 1 (dk_at dksX5_step_8 9 rfl rfl)
theorem dX5_step_201 : decode cX5_step 201 = .ok (.goto (-48), 3) := dk_167 255 208 (dk_at dksX5_step_8 12 rfl rfl)
theorem dX5_step_204 : decode cX5_step 204 = .ok (.iconst 0, 1) := dk_3 (dk_at dksX5_step_8 15 rfl rfl)
theorem dX5_step_205 : decode cX5_step 205 = .ok (.istore 6, 2) := dk_54 6 (dk_at dksX5_step_8 16 rfl rfl)
theorem dX5_step_207 : decode cX5_step 207 = .ok (.iload 6, 2) := dk_21 6 (dk_at dksX5_step_8 18 rfl rfl)
theorem dX5_step_209 : decode cX5_step 209 = .ok (.iload_n 1, 1) := dk_27 (dk_at dksX5_step_8 20 rfl rfl)
theorem dX5_step_210 : decode cX5_step 210 = .ok (.if_icmp .ge 85, 3) := dk_162 0 85 (dk_at dksX5_step_8 21 rfl rfl)
theorem dX5_step_213 : decode cX5_step 213 = .ok (.iload 5, 2) := dk_21 5 (dk_at dksX5_step_9 0 rfl rfl)
theorem dX5_step_215 : decode cX5_step 215 = .ok (.iload 6, 2) := dk_21 6 (dk_at dksX5_step_9 2 rfl rfl)
theorem dX5_step_217 : decode cX5_step 217 = .ok (.ishr, 1) := dk_122 (dk_at dksX5_step_9 4 rfl rfl)
theorem dX5_step_218 : decode cX5_step 218 = .ok (.iconst 1, 1) := dk_4 (dk_at dksX5_step_9 5 rfl rfl)
theorem dX5_step_219 : decode cX5_step 219 = .ok (.iand, 1) := dk_126 (dk_at dksX5_step_9 6 rfl rfl)
theorem dX5_step_220 : decode cX5_step 220 = .ok (.iconst 1, 1) := dk_4 (dk_at dksX5_step_9 7 rfl rfl)
theorem dX5_step_221 : decode cX5_step 221 = .ok (.if_icmp .ne 68, 3) := dk_160 0 68 (dk_at dksX5_step_9 8 rfl rfl)
theorem dX5_step_224 : decode cX5_step 224 = .ok (.aload_n 0, 1) := dk_42 (dk_at dksX5_step_9 11 rfl rfl)
theorem dX5_step_225 : decode cX5_step 225 = .ok (.getfield 7, 3) := dk_180 0 7 (dk_at dksX5_step_9 12 rfl rfl)
theorem dX5_step_228 : decode cX5_step 228 = .ok (.sipush 164, 3) := dk_17 0 164 (dk_at dksX5_step_9 15 rfl rfl)
theorem dX5_step_231 : decode cX5_step 231 = .ok (.iload_n 2, 1) := dk_28 (dk_at dksX5_step_9 18 rfl rfl)
theorem dX5_step_232 : decode cX5_step 232 = .ok (.iadd, 1) := dk_96 (dk_at dksX5_step_9 19 rfl rfl)
theorem dX5_step_233 : decode cX5_step 233 = .ok (.iload 6, 2) := dk_21 6 (dk_at dksX5_step_9 20 rfl rfl)
theorem dX5_step_235 : decode cX5_step 235 = .ok (.iadd, 1) := dk_96 (dk_at dksX5_step_9 22 rfl rfl)
theorem dX5_step_236 : decode cX5_step 236 = .ok (.aload_n 0, 1) := dk_42 (dk_at dksX5_step_9 23 rfl rfl)
theorem dX5_step_237 : decode cX5_step 237 = .ok (.iconst 0, 1) := dk_3 (dk_at dksX5_step_10 0 rfl rfl)
theorem dX5_step_238 : decode cX5_step 238 = .ok (.invokevirtual 117, 3) := dk_182 0 117 (dk_at dksX5_step_10 1 rfl rfl)
theorem dX5_step_241 : decode cX5_step 241 = .ok (.ifCond .eq 7, 3) := dk_153 0 7 (dk_at dksX5_step_10 4 rfl rfl)
theorem dX5_step_244 : decode cX5_step 244 = .ok (.iconst 1, 1) := dk_4 (dk_at dksX5_step_10 7 rfl rfl)
theorem dX5_step_245 : decode cX5_step 245 = .ok (.goto 4, 3) := dk_167 0 4 (dk_at dksX5_step_10 8 rfl rfl)
theorem dX5_step_248 : decode cX5_step 248 = .ok (.iconst 0, 1) := dk_3 (dk_at dksX5_step_10 11 rfl rfl)
theorem dX5_step_249 : decode cX5_step 249 = .ok (.aload_n 0, 1) := dk_42 (dk_at dksX5_step_10 12 rfl rfl)
theorem dX5_step_250 : decode cX5_step 250 = .ok (.iconst 1, 1) := dk_4 (dk_at dksX5_step_10 13 rfl rfl)
theorem dX5_step_251 : decode cX5_step 251 = .ok (.invokevirtual 117, 3) := dk_182 0 117 (dk_at dksX5_step_10 14 rfl rfl)
theorem dX5_step_254 : decode cX5_step 254 = .ok (.ifCond .eq 7, 3) := dk_153 0 7 (dk_at dksX5_step_10 17 rfl rfl)
theorem dX5_step_257 : decode cX5_step 257 = .ok (.iconst 2, 1) := dk_5 (dk_at dksX5_step_10 20 rfl rfl)
theorem dX5_step_258 : decode cX5_step 258 = .ok (.goto 4, 3) := dk_167 0 4 (dk_at dksX5_step_10 21 rfl rfl)
theorem dX5_step_261 : decode cX5_step 261 = .ok (.iconst 0, 1) := dk_3 (dk_at dksX5_step_11 0 rfl rfl)
theorem dX5_step_262 : decode cX5_step 262 = .ok (.iadd, 1) := dk_96 (dk_at dksX5_step_11 1 rfl rfl)
theorem dX5_step_263 : decode cX5_step 263 = .ok (.iastore, 1) := dk_79 (dk_at dksX5_step_11 2 rfl rfl)
theorem dX5_step_264 : decode cX5_step 264 = .ok (.aload_n 0, 1) := dk_42 (dk_at dksX5_step_11 3 rfl rfl)
theorem dX5_step_265 : decode cX5_step 265 = .ok (.getfield 7, 3) := dk_180 0 7 (dk_at dksX5_step_11 4 rfl rfl)
theorem dX5_step_268 : decode cX5_step 268 = .ok (.sipush 212, 3) := dk_17 0 212 (dk_at dksX5_step_11 7 rfl rfl)
theorem dX5_step_271 : decode cX5_step 271 = .ok (.iload_n 2, 1) := dk_28 (dk_at dksX5_step_11 10 rfl rfl)
theorem dX5_step_272 : decode cX5_step 272 = .ok (.iadd, 1) := dk_96 (dk_at dksX5_step_11 11 rfl rfl)
theorem dX5_step_273 : decode cX5_step 273 = .ok (.iload 6, 2) := dk_21 6 (dk_at dksX5_step_11 12 rfl rfl)
theorem dX5_step_275 : decode cX5_step 275 = .ok (.iadd, 1) := dk_96 (dk_at dksX5_step_11 14 rfl rfl)
theorem dX5_step_276 : decode cX5_step 276 = .ok (.aload_n 0, 1) := dk_42 (dk_at dksX5_step_11 15 rfl rfl)
theorem dX5_step_277 : decode cX5_step 277 = .ok (.getfield 7, 3) := dk_180 0 7 (dk_at dksX5_step_11 16 rfl rfl)
theorem dX5_step_280 : decode cX5_step 280 = .ok (.bipush 20, 2) := dk_16 20 (dk_at dksX5_step_11 19 rfl rfl)
theorem dX5_step_282 : decode cX5_step 282 = .ok (.iload_n 2, 1) := dk_28 (dk_at dksX5_step_11 21 rfl rfl)
theorem dX5_step_283 : decode cX5_step 283 = .ok (.iadd, 1) := dk_96 (dk_at dksX5_step_11 22 rfl rfl)
theorem dX5_step_284 : decode cX5_step 284 = .ok (.iload 6, 2) := dk_21 6 (dk_at dksX5_step_12 0 rfl rfl)
theorem dX5_step_286 : decode cX5_step 286 = .ok (.iadd, 1) := dk_96 (dk_at dksX5_step_12 2 rfl rfl)
theorem dX5_step_287 : decode cX5_step 287 = .ok (.iaload, 1) := dk_46 (dk_at dksX5_step_12 3 rfl rfl)
theorem dX5_step_288 : decode cX5_step 288 = .ok (.iastore, 1) := dk_79 (dk_at dksX5_step_12 4 rfl rfl)
theorem dX5_step_289 : decode cX5_step 289 = .ok (.iinc 6 1, 3) := dk_132 6 1 (dk_at dksX5_step_12 5 rfl rfl)
theorem dX5_step_292 : decode cX5_step 292 = .ok (.goto (-85), 3) := dk_167 255 171 (dk_at dksX5_step_12 8 rfl rfl)
theorem dX5_step_295 : decode cX5_step 295 = .ok (.aload_n 0, 1) := dk_42 (dk_at dksX5_step_12 11 rfl rfl)
theorem dX5_step_296 : decode cX5_step 296 = .ok (.getfield 7, 3) := dk_180 0 7 (dk_at dksX5_step_12 12 rfl rfl)
theorem dX5_step_299 : decode cX5_step 299 = .ok (.iconst 2, 1) := dk_5 (dk_at dksX5_step_12 15 rfl rfl)
theorem dX5_step_300 : decode cX5_step 300 = .ok (.dup2, 1) := dk_92 (dk_at dksX5_step_12 16 rfl rfl)
theorem dX5_step_301 : decode cX5_step 301 = .ok (.iaload, 1) := dk_46 (dk_at dksX5_step_12 17 rfl rfl)
theorem dX5_step_302 : decode cX5_step 302 = .ok (.iconst 1, 1) := dk_4 (dk_at dksX5_step_12 18 rfl rfl)
theorem dX5_step_303 : decode cX5_step 303 = .ok (.iadd, 1) := dk_96 (dk_at dksX5_step_12 19 rfl rfl)
theorem dX5_step_304 : decode cX5_step 304 = .ok (.iastore, 1) := dk_79 (dk_at dksX5_step_12 20 rfl rfl)
theorem dX5_step_305 : decode cX5_step 305 = .ok (.iload 4, 2) := dk_21 4 (dk_at dksX5_step_12 21 rfl rfl)
theorem dX5_step_307 : decode cX5_step 307 = .ok (.ireturn, 1) := dk_172 (dk_at dksX5_step_12 23 rfl rfl)
abbrev cX5_drive : ByteArray := prog_11_method_22_code
def yX5_drive : MethodName := ⟨RX5, "drive", "(I)V"⟩
def dkwX5_drive_7 : List UInt8 := [42, 180, 0, 101, 159, 0, 7, 4, 167, 0, 4, 3, 61, 167, 255, 92, 177]
abbrev dktX5_drive_7 : List UInt8 := dkwX5_drive_7 ++ []
def dkwX5_drive_6 : List UInt8 := [167, 0, 4, 3, 128, 181, 0, 104, 132, 5, 1, 167, 255, 136, 29, 42, 180, 0, 104, 160, 0, 12, 21, 4]
abbrev dktX5_drive_6 : List UInt8 := dkwX5_drive_6 ++ dktX5_drive_7
def dkwX5_drive_5 : List UInt8 := [167, 0, 4, 3, 128, 181, 0, 101, 42, 89, 180, 0, 104, 21, 8, 153, 0, 10, 4, 21, 7, 120]
abbrev dktX5_drive_5 : List UInt8 := dkwX5_drive_5 ++ dktX5_drive_6
def dkwX5_drive_4 : List UInt8 := [160, 0, 7, 4, 167, 0, 4, 3, 54, 8, 42, 89, 180, 0, 101, 21, 8, 153, 0, 10, 4, 21, 6, 120]
abbrev dktX5_drive_4 : List UInt8 := dkwX5_drive_4 ++ dktX5_drive_5
def dkwX5_drive_3 : List UInt8 := [42, 180, 0, 101, 21, 6, 122, 4, 126, 4, 159, 0, 16, 42, 180, 0, 104, 21, 7, 122, 4, 126, 4]
abbrev dktX5_drive_3 : List UInt8 := dkwX5_drive_3 ++ dktX5_drive_4
def dkwX5_drive_2 : List UInt8 := [46, 108, 54, 6, 21, 5, 42, 180, 0, 7, 4, 46, 112, 54, 7, 42, 21, 5, 182, 0, 72, 153, 0, 33]
abbrev dktX5_drive_2 : List UInt8 := dkwX5_drive_2 ++ dktX5_drive_3
def dkwX5_drive_1 : List UInt8 := [180, 0, 101, 54, 4, 3, 54, 5, 21, 5, 42, 182, 0, 64, 162, 0, 117, 21, 5, 42, 180, 0, 7, 4]
abbrev dktX5_drive_1 : List UInt8 := dkwX5_drive_1 ++ dktX5_drive_2
def dkwX5_drive_0 : List UInt8 := [42, 4, 27, 120, 181, 0, 101, 42, 3, 181, 0, 104, 4, 61, 28, 153, 0, 166, 42, 180, 0, 104, 62, 42]
abbrev dktX5_drive_0 : List UInt8 := dkwX5_drive_0 ++ dktX5_drive_1
theorem dksX5_drive_0 : cX5_drive.data.toList.drop 0 = dktX5_drive_0 := by decide +kernel
theorem dksX5_drive_1 : cX5_drive.data.toList.drop 24 = dktX5_drive_1 := dk_seg dksX5_drive_0 24 rfl rfl
theorem dksX5_drive_2 : cX5_drive.data.toList.drop 48 = dktX5_drive_2 := dk_seg dksX5_drive_1 24 rfl rfl
theorem dksX5_drive_3 : cX5_drive.data.toList.drop 72 = dktX5_drive_3 := dk_seg dksX5_drive_2 24 rfl rfl
theorem dksX5_drive_4 : cX5_drive.data.toList.drop 95 = dktX5_drive_4 := dk_seg dksX5_drive_3 23 rfl rfl
theorem dksX5_drive_5 : cX5_drive.data.toList.drop 119 = dktX5_drive_5 := dk_seg dksX5_drive_4 24 rfl rfl
theorem dksX5_drive_6 : cX5_drive.data.toList.drop 141 = dktX5_drive_6 := dk_seg dksX5_drive_5 22 rfl rfl
theorem dksX5_drive_7 : cX5_drive.data.toList.drop 165 = dktX5_drive_7 := dk_seg dksX5_drive_6 24 rfl rfl
theorem dX5_drive_0 : decode cX5_drive 0 = .ok (.aload_n 0, 1) := dk_42 (dk_at dksX5_drive_0 0 rfl rfl)
theorem dX5_drive_1 : decode cX5_drive 1 = .ok (.iconst 1, 1) := dk_4 (dk_at dksX5_drive_0 1 rfl rfl)
theorem dX5_drive_2 : decode cX5_drive 2 = .ok (.iload_n 1, 1) := dk_27 (dk_at dksX5_drive_0 2 rfl rfl)
theorem dX5_drive_3 : decode cX5_drive 3 = .ok (.ishl, 1) := dk_120 (dk_at dksX5_drive_0 3 rfl rfl)
theorem dX5_drive_4 : decode cX5_drive 4 = .ok (.putfield 101, 3) := dk_181 0 101 (dk_at dksX5_drive_0 4 rfl rfl)
theorem dX5_drive_7 : decode cX5_drive 7 = .ok (.aload_n 0, 1) := dk_42 (dk_at dksX5_drive_0 7 rfl rfl)
theorem dX5_drive_8 : decode cX5_drive 8 = .ok (.iconst 0, 1) := dk_3 (dk_at dksX5_drive_0 8 rfl rfl)
theorem dX5_drive_9 : decode cX5_drive 9 = .ok (.putfield 104, 3) := dk_181 0 104 (dk_at dksX5_drive_0 9 rfl rfl)
theorem dX5_drive_12 : decode cX5_drive 12 = .ok (.iconst 1, 1) := dk_4 (dk_at dksX5_drive_0 12 rfl rfl)
theorem dX5_drive_13 : decode cX5_drive 13 = .ok (.istore_n 2, 1) := dk_61 (dk_at dksX5_drive_0 13 rfl rfl)
theorem dX5_drive_14 : decode cX5_drive 14 = .ok (.iload_n 2, 1) := dk_28 (dk_at dksX5_drive_0 14 rfl rfl)
theorem dX5_drive_15 : decode cX5_drive 15 = .ok (.ifCond .eq 166, 3) := dk_153 0 166 (dk_at dksX5_drive_0 15 rfl rfl)
theorem dX5_drive_18 : decode cX5_drive 18 = .ok (.aload_n 0, 1) := dk_42 (dk_at dksX5_drive_0 18 rfl rfl)
theorem dX5_drive_19 : decode cX5_drive 19 = .ok (.getfield 104, 3) := dk_180 0 104 (dk_at dksX5_drive_0 19 rfl rfl)
theorem dX5_drive_22 : decode cX5_drive 22 = .ok (.istore_n 3, 1) := dk_62 (dk_at dksX5_drive_0 22 rfl rfl)
theorem dX5_drive_23 : decode cX5_drive 23 = .ok (.aload_n 0, 1) := dk_42 (dk_at dksX5_drive_0 23 rfl rfl)
theorem dX5_drive_24 : decode cX5_drive 24 = .ok (.getfield 101, 3) := dk_180 0 101 (dk_at dksX5_drive_1 0 rfl rfl)
theorem dX5_drive_27 : decode cX5_drive 27 = .ok (.istore 4, 2) := dk_54 4 (dk_at dksX5_drive_1 3 rfl rfl)
theorem dX5_drive_29 : decode cX5_drive 29 = .ok (.iconst 0, 1) := dk_3 (dk_at dksX5_drive_1 5 rfl rfl)
theorem dX5_drive_30 : decode cX5_drive 30 = .ok (.istore 5, 2) := dk_54 5 (dk_at dksX5_drive_1 6 rfl rfl)
theorem dX5_drive_32 : decode cX5_drive 32 = .ok (.iload 5, 2) := dk_21 5 (dk_at dksX5_drive_1 8 rfl rfl)
theorem dX5_drive_34 : decode cX5_drive 34 = .ok (.aload_n 0, 1) := dk_42 (dk_at dksX5_drive_1 10 rfl rfl)
theorem dX5_drive_35 : decode cX5_drive 35 = .ok (.invokevirtual 64, 3) := dk_182 0 64 (dk_at dksX5_drive_1 11 rfl rfl)
theorem dX5_drive_38 : decode cX5_drive 38 = .ok (.if_icmp .ge 117, 3) := dk_162 0 117 (dk_at dksX5_drive_1 14 rfl rfl)
theorem dX5_drive_41 : decode cX5_drive 41 = .ok (.iload 5, 2) := dk_21 5 (dk_at dksX5_drive_1 17 rfl rfl)
theorem dX5_drive_43 : decode cX5_drive 43 = .ok (.aload_n 0, 1) := dk_42 (dk_at dksX5_drive_1 19 rfl rfl)
theorem dX5_drive_44 : decode cX5_drive 44 = .ok (.getfield 7, 3) := dk_180 0 7 (dk_at dksX5_drive_1 20 rfl rfl)
theorem dX5_drive_47 : decode cX5_drive 47 = .ok (.iconst 1, 1) := dk_4 (dk_at dksX5_drive_1 23 rfl rfl)
theorem dX5_drive_48 : decode cX5_drive 48 = .ok (.iaload, 1) := dk_46 (dk_at dksX5_drive_2 0 rfl rfl)
theorem dX5_drive_49 : decode cX5_drive 49 = .ok (.idiv, 1) := dk_108 (dk_at dksX5_drive_2 1 rfl rfl)
theorem dX5_drive_50 : decode cX5_drive 50 = .ok (.istore 6, 2) := dk_54 6 (dk_at dksX5_drive_2 2 rfl rfl)
theorem dX5_drive_52 : decode cX5_drive 52 = .ok (.iload 5, 2) := dk_21 5 (dk_at dksX5_drive_2 4 rfl rfl)
theorem dX5_drive_54 : decode cX5_drive 54 = .ok (.aload_n 0, 1) := dk_42 (dk_at dksX5_drive_2 6 rfl rfl)
theorem dX5_drive_55 : decode cX5_drive 55 = .ok (.getfield 7, 3) := dk_180 0 7 (dk_at dksX5_drive_2 7 rfl rfl)
theorem dX5_drive_58 : decode cX5_drive 58 = .ok (.iconst 1, 1) := dk_4 (dk_at dksX5_drive_2 10 rfl rfl)
theorem dX5_drive_59 : decode cX5_drive 59 = .ok (.iaload, 1) := dk_46 (dk_at dksX5_drive_2 11 rfl rfl)
theorem dX5_drive_60 : decode cX5_drive 60 = .ok (.irem, 1) := dk_112 (dk_at dksX5_drive_2 12 rfl rfl)
theorem dX5_drive_61 : decode cX5_drive 61 = .ok (.istore 7, 2) := dk_54 7 (dk_at dksX5_drive_2 13 rfl rfl)
theorem dX5_drive_63 : decode cX5_drive 63 = .ok (.aload_n 0, 1) := dk_42 (dk_at dksX5_drive_2 15 rfl rfl)
theorem dX5_drive_64 : decode cX5_drive 64 = .ok (.iload 5, 2) := dk_21 5 (dk_at dksX5_drive_2 16 rfl rfl)
theorem dX5_drive_66 : decode cX5_drive 66 = .ok (.invokevirtual 72, 3) := dk_182 0 72 (dk_at dksX5_drive_2 18 rfl rfl)
theorem dX5_drive_69 : decode cX5_drive 69 = .ok (.ifCond .eq 33, 3) := dk_153 0 33 (dk_at dksX5_drive_2 21 rfl rfl)
theorem dX5_drive_72 : decode cX5_drive 72 = .ok (.aload_n 0, 1) := dk_42 (dk_at dksX5_drive_3 0 rfl rfl)
theorem dX5_drive_73 : decode cX5_drive 73 = .ok (.getfield 101, 3) := dk_180 0 101 (dk_at dksX5_drive_3 1 rfl rfl)
theorem dX5_drive_76 : decode cX5_drive 76 = .ok (.iload 6, 2) := dk_21 6 (dk_at dksX5_drive_3 4 rfl rfl)
theorem dX5_drive_78 : decode cX5_drive 78 = .ok (.ishr, 1) := dk_122 (dk_at dksX5_drive_3 6 rfl rfl)
theorem dX5_drive_79 : decode cX5_drive 79 = .ok (.iconst 1, 1) := dk_4 (dk_at dksX5_drive_3 7 rfl rfl)
theorem dX5_drive_80 : decode cX5_drive 80 = .ok (.iand, 1) := dk_126 (dk_at dksX5_drive_3 8 rfl rfl)
theorem dX5_drive_81 : decode cX5_drive 81 = .ok (.iconst 1, 1) := dk_4 (dk_at dksX5_drive_3 9 rfl rfl)
theorem dX5_drive_82 : decode cX5_drive 82 = .ok (.if_icmp .eq 16, 3) := dk_159 0 16 (dk_at dksX5_drive_3 10 rfl rfl)
theorem dX5_drive_85 : decode cX5_drive 85 = .ok (.aload_n 0, 1) := dk_42 (dk_at dksX5_drive_3 13 rfl rfl)
theorem dX5_drive_86 : decode cX5_drive 86 = .ok (.getfield 104, 3) := dk_180 0 104 (dk_at dksX5_drive_3 14 rfl rfl)
theorem dX5_drive_89 : decode cX5_drive 89 = .ok (.iload 7, 2) := dk_21 7 (dk_at dksX5_drive_3 17 rfl rfl)
theorem dX5_drive_91 : decode cX5_drive 91 = .ok (.ishr, 1) := dk_122 (dk_at dksX5_drive_3 19 rfl rfl)
theorem dX5_drive_92 : decode cX5_drive 92 = .ok (.iconst 1, 1) := dk_4 (dk_at dksX5_drive_3 20 rfl rfl)
theorem dX5_drive_93 : decode cX5_drive 93 = .ok (.iand, 1) := dk_126 (dk_at dksX5_drive_3 21 rfl rfl)
theorem dX5_drive_94 : decode cX5_drive 94 = .ok (.iconst 1, 1) := dk_4 (dk_at dksX5_drive_3 22 rfl rfl)
theorem dX5_drive_95 : decode cX5_drive 95 = .ok (.if_icmp .ne 7, 3) := dk_160 0 7 (dk_at dksX5_drive_4 0 rfl rfl)
theorem dX5_drive_98 : decode cX5_drive 98 = .ok (.iconst 1, 1) := dk_4 (dk_at dksX5_drive_4 3 rfl rfl)
theorem dX5_drive_99 : decode cX5_drive 99 = .ok (.goto 4, 3) := dk_167 0 4 (dk_at dksX5_drive_4 4 rfl rfl)
theorem dX5_drive_102 : decode cX5_drive 102 = .ok (.iconst 0, 1) := dk_3 (dk_at dksX5_drive_4 7 rfl rfl)
theorem dX5_drive_103 : decode cX5_drive 103 = .ok (.istore 8, 2) := dk_54 8 (dk_at dksX5_drive_4 8 rfl rfl)
theorem dX5_drive_105 : decode cX5_drive 105 = .ok (.aload_n 0, 1) := dk_42 (dk_at dksX5_drive_4 10 rfl rfl)
theorem dX5_drive_106 : decode cX5_drive 106 = .ok (.dup, 1) := dk_89 (dk_at dksX5_drive_4 11 rfl rfl)
theorem dX5_drive_107 : decode cX5_drive 107 = .ok (.getfield 101, 3) := dk_180 0 101 (dk_at dksX5_drive_4 12 rfl rfl)
theorem dX5_drive_110 : decode cX5_drive 110 = .ok (.iload 8, 2) := dk_21 8 (dk_at dksX5_drive_4 15 rfl rfl)
theorem dX5_drive_112 : decode cX5_drive 112 = .ok (.ifCond .eq 10, 3) := dk_153 0 10 (dk_at dksX5_drive_4 17 rfl rfl)
theorem dX5_drive_115 : decode cX5_drive 115 = .ok (.iconst 1, 1) := dk_4 (dk_at dksX5_drive_4 20 rfl rfl)
theorem dX5_drive_116 : decode cX5_drive 116 = .ok (.iload 6, 2) := dk_21 6 (dk_at dksX5_drive_4 21 rfl rfl)
theorem dX5_drive_118 : decode cX5_drive 118 = .ok (.ishl, 1) := dk_120 (dk_at dksX5_drive_4 23 rfl rfl)
theorem dX5_drive_119 : decode cX5_drive 119 = .ok (.goto 4, 3) := dk_167 0 4 (dk_at dksX5_drive_5 0 rfl rfl)
theorem dX5_drive_122 : decode cX5_drive 122 = .ok (.iconst 0, 1) := dk_3 (dk_at dksX5_drive_5 3 rfl rfl)
theorem dX5_drive_123 : decode cX5_drive 123 = .ok (.ior, 1) := dk_128 (dk_at dksX5_drive_5 4 rfl rfl)
theorem dX5_drive_124 : decode cX5_drive 124 = .ok (.putfield 101, 3) := dk_181 0 101 (dk_at dksX5_drive_5 5 rfl rfl)
theorem dX5_drive_127 : decode cX5_drive 127 = .ok (.aload_n 0, 1) := dk_42 (dk_at dksX5_drive_5 8 rfl rfl)
theorem dX5_drive_128 : decode cX5_drive 128 = .ok (.dup, 1) := dk_89 (dk_at dksX5_drive_5 9 rfl rfl)
theorem dX5_drive_129 : decode cX5_drive 129 = .ok (.getfield 104, 3) := dk_180 0 104 (dk_at dksX5_drive_5 10 rfl rfl)
theorem dX5_drive_132 : decode cX5_drive 132 = .ok (.iload 8, 2) := dk_21 8 (dk_at dksX5_drive_5 13 rfl rfl)
theorem dX5_drive_134 : decode cX5_drive 134 = .ok (.ifCond .eq 10, 3) := dk_153 0 10 (dk_at dksX5_drive_5 15 rfl rfl)
theorem dX5_drive_137 : decode cX5_drive 137 = .ok (.iconst 1, 1) := dk_4 (dk_at dksX5_drive_5 18 rfl rfl)
theorem dX5_drive_138 : decode cX5_drive 138 = .ok (.iload 7, 2) := dk_21 7 (dk_at dksX5_drive_5 19 rfl rfl)
theorem dX5_drive_140 : decode cX5_drive 140 = .ok (.ishl, 1) := dk_120 (dk_at dksX5_drive_5 21 rfl rfl)
theorem dX5_drive_141 : decode cX5_drive 141 = .ok (.goto 4, 3) := dk_167 0 4 (dk_at dksX5_drive_6 0 rfl rfl)
theorem dX5_drive_144 : decode cX5_drive 144 = .ok (.iconst 0, 1) := dk_3 (dk_at dksX5_drive_6 3 rfl rfl)
theorem dX5_drive_145 : decode cX5_drive 145 = .ok (.ior, 1) := dk_128 (dk_at dksX5_drive_6 4 rfl rfl)
theorem dX5_drive_146 : decode cX5_drive 146 = .ok (.putfield 104, 3) := dk_181 0 104 (dk_at dksX5_drive_6 5 rfl rfl)
theorem dX5_drive_149 : decode cX5_drive 149 = .ok (.iinc 5 1, 3) := dk_132 5 1 (dk_at dksX5_drive_6 8 rfl rfl)
theorem dX5_drive_152 : decode cX5_drive 152 = .ok (.goto (-120), 3) := dk_167 255 136 (dk_at dksX5_drive_6 11 rfl rfl)
theorem dX5_drive_155 : decode cX5_drive 155 = .ok (.iload_n 3, 1) := dk_29 (dk_at dksX5_drive_6 14 rfl rfl)
theorem dX5_drive_156 : decode cX5_drive 156 = .ok (.aload_n 0, 1) := dk_42 (dk_at dksX5_drive_6 15 rfl rfl)
theorem dX5_drive_157 : decode cX5_drive 157 = .ok (.getfield 104, 3) := dk_180 0 104 (dk_at dksX5_drive_6 16 rfl rfl)
theorem dX5_drive_160 : decode cX5_drive 160 = .ok (.if_icmp .ne 12, 3) := dk_160 0 12 (dk_at dksX5_drive_6 19 rfl rfl)
theorem dX5_drive_163 : decode cX5_drive 163 = .ok (.iload 4, 2) := dk_21 4 (dk_at dksX5_drive_6 22 rfl rfl)
theorem dX5_drive_165 : decode cX5_drive 165 = .ok (.aload_n 0, 1) := dk_42 (dk_at dksX5_drive_7 0 rfl rfl)
theorem dX5_drive_166 : decode cX5_drive 166 = .ok (.getfield 101, 3) := dk_180 0 101 (dk_at dksX5_drive_7 1 rfl rfl)
theorem dX5_drive_169 : decode cX5_drive 169 = .ok (.if_icmp .eq 7, 3) := dk_159 0 7 (dk_at dksX5_drive_7 4 rfl rfl)
theorem dX5_drive_172 : decode cX5_drive 172 = .ok (.iconst 1, 1) := dk_4 (dk_at dksX5_drive_7 7 rfl rfl)
theorem dX5_drive_173 : decode cX5_drive 173 = .ok (.goto 4, 3) := dk_167 0 4 (dk_at dksX5_drive_7 8 rfl rfl)
theorem dX5_drive_176 : decode cX5_drive 176 = .ok (.iconst 0, 1) := dk_3 (dk_at dksX5_drive_7 11 rfl rfl)
theorem dX5_drive_177 : decode cX5_drive 177 = .ok (.istore_n 2, 1) := dk_61 (dk_at dksX5_drive_7 12 rfl rfl)
theorem dX5_drive_178 : decode cX5_drive 178 = .ok (.goto (-164), 3) := dk_167 255 92 (dk_at dksX5_drive_7 13 rfl rfl)
theorem dX5_drive_181 : decode cX5_drive 181 = .ok (.return_, 1) := dk_177 (dk_at dksX5_drive_7 16 rfl rfl)
abbrev cX5_endStroke : ByteArray := prog_11_method_35_code
def yX5_endStroke : MethodName := ⟨RX5, "endStroke", "(I)V"⟩
def dkwX5_endStroke_12 : List UInt8 := [180, 0, 7, 16, 68, 27, 96, 16, 251, 79, 42, 180, 0, 7, 16, 116, 27, 96, 3, 79, 177]
abbrev dktX5_endStroke_12 : List UInt8 := dkwX5_endStroke_12 ++ []
def dkwX5_endStroke_11 : List UInt8 := [29, 21, 4, 182, 0, 143, 42, 28, 27, 42, 180, 0, 7, 17, 0, 164, 27, 96, 46, 182, 0, 147, 42]
abbrev dktX5_endStroke_11 : List UInt8 := dkwX5_endStroke_11 ++ dktX5_endStroke_12
def dkwX5_endStroke_10 : List UInt8 := [17, 0, 212, 27, 96, 46, 182, 0, 139, 28, 5, 162, 0, 35, 42, 27, 182, 0, 82, 156, 0, 11, 42, 28]
abbrev dktX5_endStroke_10 : List UInt8 := dkwX5_endStroke_10 ++ dktX5_endStroke_11
def dkwX5_endStroke_9 : List UInt8 := [16, 6, 96, 21, 5, 79, 42, 180, 0, 7, 16, 16, 92, 46, 4, 96, 79, 42, 28, 42, 180, 0, 7]
abbrev dktX5_endStroke_9 : List UInt8 := dkwX5_endStroke_9 ++ dktX5_endStroke_10
def dkwX5_endStroke_8 : List UInt8 := [79, 132, 8, 1, 167, 255, 226, 42, 180, 0, 7, 21, 7, 6, 96, 16, 251, 79, 42, 180, 0, 7, 21, 7]
abbrev dktX5_endStroke_8 : List UInt8 := dkwX5_endStroke_8 ++ dktX5_endStroke_9
def dkwX5_endStroke_7 : List UInt8 := [16, 6, 162, 0, 29, 42, 180, 0, 7, 21, 7, 21, 8, 96, 42, 180, 0, 7, 21, 6, 21, 8, 96, 46]
abbrev dktX5_endStroke_7 : List UInt8 := dkwX5_endStroke_7 ++ dktX5_endStroke_8
def dkwX5_endStroke_6 : List UInt8 := [160, 0, 89, 17, 1, 148, 16, 7, 42, 180, 0, 7, 16, 16, 46, 104, 96, 54, 7, 3, 54, 8, 21, 8]
abbrev dktX5_endStroke_6 : List UInt8 := dkwX5_endStroke_6 ++ dktX5_endStroke_7
def dkwX5_endStroke_5 : List UInt8 := [180, 0, 7, 17, 0, 164, 27, 96, 46, 79, 42, 180, 0, 7, 16, 9, 92, 46, 4, 96, 79, 28, 6]
abbrev dktX5_endStroke_5 : List UInt8 := dkwX5_endStroke_5 ++ dktX5_endStroke_6
def dkwX5_endStroke_4 : List UInt8 := [21, 6, 7, 96, 42, 180, 0, 7, 17, 0, 212, 27, 96, 46, 79, 42, 180, 0, 7, 21, 6, 8, 96, 42]
abbrev dktX5_endStroke_4 : List UInt8 := dkwX5_endStroke_4 ++ dktX5_endStroke_5
def dkwX5_endStroke_3 : List UInt8 := [180, 0, 7, 21, 6, 5, 96, 21, 4, 79, 42, 180, 0, 7, 21, 6, 6, 96, 28, 79, 42, 180, 0, 7]
abbrev dktX5_endStroke_3 : List UInt8 := dkwX5_endStroke_3 ++ dktX5_endStroke_4
def dkwX5_endStroke_2 : List UInt8 := [54, 6, 42, 180, 0, 7, 21, 6, 3, 96, 27, 79, 42, 180, 0, 7, 21, 6, 4, 96, 29, 79, 42]
abbrev dktX5_endStroke_2 : List UInt8 := dkwX5_endStroke_2 ++ dktX5_endStroke_3
def dkwX5_endStroke_1 : List UInt8 := [54, 4, 42, 180, 0, 7, 16, 9, 46, 54, 5, 17, 1, 52, 16, 6, 21, 5, 16, 16, 112, 104, 96]
abbrev dktX5_endStroke_1 : List UInt8 := dkwX5_endStroke_1 ++ dktX5_endStroke_2
def dkwX5_endStroke_0 : List UInt8 := [42, 27, 182, 0, 136, 61, 42, 180, 0, 7, 16, 68, 27, 96, 46, 62, 42, 180, 0, 7, 5, 46, 29, 100]
abbrev dktX5_endStroke_0 : List UInt8 := dkwX5_endStroke_0 ++ dktX5_endStroke_1
theorem dksX5_endStroke_0 : cX5_endStroke.data.toList.drop 0 = dktX5_endStroke_0 := by decide +kernel
theorem dksX5_endStroke_1 : cX5_endStroke.data.toList.drop 24 = dktX5_endStroke_1 := dk_seg dksX5_endStroke_0 24 rfl rfl
theorem dksX5_endStroke_2 : cX5_endStroke.data.toList.drop 47 = dktX5_endStroke_2 := dk_seg dksX5_endStroke_1 23 rfl rfl
theorem dksX5_endStroke_3 : cX5_endStroke.data.toList.drop 70 = dktX5_endStroke_3 := dk_seg dksX5_endStroke_2 23 rfl rfl
theorem dksX5_endStroke_4 : cX5_endStroke.data.toList.drop 94 = dktX5_endStroke_4 := dk_seg dksX5_endStroke_3 24 rfl rfl
theorem dksX5_endStroke_5 : cX5_endStroke.data.toList.drop 118 = dktX5_endStroke_5 := dk_seg dksX5_endStroke_4 24 rfl rfl
theorem dksX5_endStroke_6 : cX5_endStroke.data.toList.drop 141 = dktX5_endStroke_6 := dk_seg dksX5_endStroke_5 23 rfl rfl
theorem dksX5_endStroke_7 : cX5_endStroke.data.toList.drop 165 = dktX5_endStroke_7 := dk_seg dksX5_endStroke_6 24 rfl rfl
theorem dksX5_endStroke_8 : cX5_endStroke.data.toList.drop 189 = dktX5_endStroke_8 := dk_seg dksX5_endStroke_7 24 rfl rfl
theorem dksX5_endStroke_9 : cX5_endStroke.data.toList.drop 213 = dktX5_endStroke_9 := dk_seg dksX5_endStroke_8 24 rfl rfl
theorem dksX5_endStroke_10 : cX5_endStroke.data.toList.drop 236 = dktX5_endStroke_10 := dk_seg dksX5_endStroke_9 23 rfl rfl
theorem dksX5_endStroke_11 : cX5_endStroke.data.toList.drop 260 = dktX5_endStroke_11 := dk_seg dksX5_endStroke_10 24 rfl rfl
theorem dksX5_endStroke_12 : cX5_endStroke.data.toList.drop 283 = dktX5_endStroke_12 := dk_seg dksX5_endStroke_11 23 rfl rfl
theorem dX5_endStroke_0 : decode cX5_endStroke 0 = .ok (.aload_n 0, 1) := dk_42 (dk_at dksX5_endStroke_0 0 rfl rfl)
theorem dX5_endStroke_1 : decode cX5_endStroke 1 = .ok (.iload_n 1, 1) := dk_27 (dk_at dksX5_endStroke_0 1 rfl rfl)
theorem dX5_endStroke_2 : decode cX5_endStroke 2 = .ok (.invokevirtual 136, 3) := dk_182 0 136 (dk_at dksX5_endStroke_0 2 rfl rfl)
theorem dX5_endStroke_5 : decode cX5_endStroke 5 = .ok (.istore_n 2, 1) := dk_61 (dk_at dksX5_endStroke_0 5 rfl rfl)
theorem dX5_endStroke_6 : decode cX5_endStroke 6 = .ok (.aload_n 0, 1) := dk_42 (dk_at dksX5_endStroke_0 6 rfl rfl)
theorem dX5_endStroke_7 : decode cX5_endStroke 7 = .ok (.getfield 7, 3) := dk_180 0 7 (dk_at dksX5_endStroke_0 7 rfl rfl)
theorem dX5_endStroke_10 : decode cX5_endStroke 10 = .ok (.bipush 68, 2) := dk_16 68 (dk_at dksX5_endStroke_0 10 rfl rfl)
theorem dX5_endStroke_12 : decode cX5_endStroke 12 = .ok (.iload_n 1, 1) := dk_27 (dk_at dksX5_endStroke_0 12 rfl rfl)
theorem dX5_endStroke_13 : decode cX5_endStroke 13 = .ok (.iadd, 1) := dk_96 (dk_at dksX5_endStroke_0 13 rfl rfl)
theorem dX5_endStroke_14 : decode cX5_endStroke 14 = .ok (.iaload, 1) := dk_46 (dk_at dksX5_endStroke_0 14 rfl rfl)
theorem dX5_endStroke_15 : decode cX5_endStroke 15 = .ok (.istore_n 3, 1) := dk_62 (dk_at dksX5_endStroke_0 15 rfl rfl)
theorem dX5_endStroke_16 : decode cX5_endStroke 16 = .ok (.aload_n 0, 1) := dk_42 (dk_at dksX5_endStroke_0 16 rfl rfl)
theorem dX5_endStroke_17 : decode cX5_endStroke 17 = .ok (.getfield 7, 3) := dk_180 0 7 (dk_at dksX5_endStroke_0 17 rfl rfl)
theorem dX5_endStroke_20 : decode cX5_endStroke 20 = .ok (.iconst 2, 1) := dk_5 (dk_at dksX5_endStroke_0 20 rfl rfl)
theorem dX5_endStroke_21 : decode cX5_endStroke 21 = .ok (.iaload, 1) := dk_46 (dk_at dksX5_endStroke_0 21 rfl rfl)
theorem dX5_endStroke_22 : decode cX5_endStroke 22 = .ok (.iload_n 3, 1) := dk_29 (dk_at dksX5_endStroke_0 22 rfl rfl)
theorem dX5_endStroke_23 : decode cX5_endStroke 23 = .ok (.isub, 1) := dk_100 (dk_at dksX5_endStroke_0 23 rfl rfl)
theorem dX5_endStroke_24 : decode cX5_endStroke 24 = .ok (.istore 4, 2) := dk_54 4 (dk_at dksX5_endStroke_1 0 rfl rfl)
theorem dX5_endStroke_26 : decode cX5_endStroke 26 = .ok (.aload_n 0, 1) := dk_42 (dk_at dksX5_endStroke_1 2 rfl rfl)
theorem dX5_endStroke_27 : decode cX5_endStroke 27 = .ok (.getfield 7, 3) := dk_180 0 7 (dk_at dksX5_endStroke_1 3 rfl rfl)
theorem dX5_endStroke_30 : decode cX5_endStroke 30 = .ok (.bipush 9, 2) := dk_16 9 (dk_at dksX5_endStroke_1 6 rfl rfl)
theorem dX5_endStroke_32 : decode cX5_endStroke 32 = .ok (.iaload, 1) := dk_46 (dk_at dksX5_endStroke_1 8 rfl rfl)
theorem dX5_endStroke_33 : decode cX5_endStroke 33 = .ok (.istore 5, 2) := dk_54 5 (dk_at dksX5_endStroke_1 9 rfl rfl)
theorem dX5_endStroke_35 : decode cX5_endStroke 35 = .ok (.sipush 308, 3) := dk_17 1 52 (dk_at dksX5_endStroke_1 11 rfl rfl)
theorem dX5_endStroke_38 : decode cX5_endStroke 38 = .ok (.bipush 6, 2) := dk_16 6 (dk_at dksX5_endStroke_1 14 rfl rfl)
theorem dX5_endStroke_40 : decode cX5_endStroke 40 = .ok (.iload 5, 2) := dk_21 5 (dk_at dksX5_endStroke_1 16 rfl rfl)
theorem dX5_endStroke_42 : decode cX5_endStroke 42 = .ok (.bipush 16, 2) := dk_16 16 (dk_at dksX5_endStroke_1 18 rfl rfl)
theorem dX5_endStroke_44 : decode cX5_endStroke 44 = .ok (.irem, 1) := dk_112 (dk_at dksX5_endStroke_1 20 rfl rfl)
theorem dX5_endStroke_45 : decode cX5_endStroke 45 = .ok (.imul, 1) := dk_104 (dk_at dksX5_endStroke_1 21 rfl rfl)
theorem dX5_endStroke_46 : decode cX5_endStroke 46 = .ok (.iadd, 1) := dk_96 (dk_at dksX5_endStroke_1 22 rfl rfl)
theorem dX5_endStroke_47 : decode cX5_endStroke 47 = .ok (.istore 6, 2) := dk_54 6 (dk_at dksX5_endStroke_2 0 rfl rfl)
theorem dX5_endStroke_49 : decode cX5_endStroke 49 = .ok (.aload_n 0, 1) := dk_42 (dk_at dksX5_endStroke_2 2 rfl rfl)
theorem dX5_endStroke_50 : decode cX5_endStroke 50 = .ok (.getfield 7, 3) := dk_180 0 7 (dk_at dksX5_endStroke_2 3 rfl rfl)
theorem dX5_endStroke_53 : decode cX5_endStroke 53 = .ok (.iload 6, 2) := dk_21 6 (dk_at dksX5_endStroke_2 6 rfl rfl)
theorem dX5_endStroke_55 : decode cX5_endStroke 55 = .ok (.iconst 0, 1) := dk_3 (dk_at dksX5_endStroke_2 8 rfl rfl)
theorem dX5_endStroke_56 : decode cX5_endStroke 56 = .ok (.iadd, 1) := dk_96 (dk_at dksX5_endStroke_2 9 rfl rfl)
theorem dX5_endStroke_57 : decode cX5_endStroke 57 = .ok (.iload_n 1, 1) := dk_27 (dk_at dksX5_endStroke_2 10 rfl rfl)
theorem dX5_endStroke_58 : decode cX5_endStroke 58 = .ok (.iastore, 1) := dk_79 (dk_at dksX5_endStroke_2 11 rfl rfl)
theorem dX5_endStroke_59 : decode cX5_endStroke 59 = .ok (.aload_n 0, 1) := dk_42 (dk_at dksX5_endStroke_2 12 rfl rfl)
theorem dX5_endStroke_60 : decode cX5_endStroke 60 = .ok (.getfield 7, 3) := dk_180 0 7 (dk_at dksX5_endStroke_2 13 rfl rfl)
theorem dX5_endStroke_63 : decode cX5_endStroke 63 = .ok (.iload 6, 2) := dk_21 6 (dk_at dksX5_endStroke_2 16 rfl rfl)
theorem dX5_endStroke_65 : decode cX5_endStroke 65 = .ok (.iconst 1, 1) := dk_4 (dk_at dksX5_endStroke_2 18 rfl rfl)
theorem dX5_endStroke_66 : decode cX5_endStroke 66 = .ok (.iadd, 1) := dk_96 (dk_at dksX5_endStroke_2 19 rfl rfl)
theorem dX5_endStroke_67 : decode cX5_endStroke 67 = .ok (.iload_n 3, 1) := dk_29 (dk_at dksX5_endStroke_2 20 rfl rfl)
theorem dX5_endStroke_68 : decode cX5_endStroke 68 = .ok (.iastore, 1) := dk_79 (dk_at dksX5_endStroke_2 21 rfl rfl)
theorem dX5_endStroke_69 : decode cX5_endStroke 69 = .ok (.aload_n 0, 1) := dk_42 (dk_at dksX5_endStroke_2 22 rfl rfl)
theorem dX5_endStroke_70 : decode cX5_endStroke 70 = .ok (.getfield 7, 3) := dk_180 0 7 (dk_at dksX5_endStroke_3 0 rfl rfl)
theorem dX5_endStroke_73 : decode cX5_endStroke 73 = .ok (.iload 6, 2) := dk_21 6 (dk_at dksX5_endStroke_3 3 rfl rfl)
theorem dX5_endStroke_75 : decode cX5_endStroke 75 = .ok (.iconst 2, 1) := dk_5 (dk_at dksX5_endStroke_3 5 rfl rfl)
theorem dX5_endStroke_76 : decode cX5_endStroke 76 = .ok (.iadd, 1) := dk_96 (dk_at dksX5_endStroke_3 6 rfl rfl)
theorem dX5_endStroke_77 : decode cX5_endStroke 77 = .ok (.iload 4, 2) := dk_21 4 (dk_at dksX5_endStroke_3 7 rfl rfl)
theorem dX5_endStroke_79 : decode cX5_endStroke 79 = .ok (.iastore, 1) := dk_79 (dk_at dksX5_endStroke_3 9 rfl rfl)
theorem dX5_endStroke_80 : decode cX5_endStroke 80 = .ok (.aload_n 0, 1) := dk_42 (dk_at dksX5_endStroke_3 10 rfl rfl)
theorem dX5_endStroke_81 : decode cX5_endStroke 81 = .ok (.getfield 7, 3) := dk_180 0 7 (dk_at dksX5_endStroke_3 11 rfl rfl)
theorem dX5_endStroke_84 : decode cX5_endStroke 84 = .ok (.iload 6, 2) := dk_21 6 (dk_at dksX5_endStroke_3 14 rfl rfl)
theorem dX5_endStroke_86 : decode cX5_endStroke 86 = .ok (.iconst 3, 1) := dk_6 (dk_at dksX5_endStroke_3 16 rfl rfl)
theorem dX5_endStroke_87 : decode cX5_endStroke 87 = .ok (.iadd, 1) := dk_96 (dk_at dksX5_endStroke_3 17 rfl rfl)
theorem dX5_endStroke_88 : decode cX5_endStroke 88 = .ok (.iload_n 2, 1) := dk_28 (dk_at dksX5_endStroke_3 18 rfl rfl)
theorem dX5_endStroke_89 : decode cX5_endStroke 89 = .ok (.iastore, 1) := dk_79 (dk_at dksX5_endStroke_3 19 rfl rfl)
theorem dX5_endStroke_90 : decode cX5_endStroke 90 = .ok (.aload_n 0, 1) := dk_42 (dk_at dksX5_endStroke_3 20 rfl rfl)
theorem dX5_endStroke_91 : decode cX5_endStroke 91 = .ok (.getfield 7, 3) := dk_180 0 7 (dk_at dksX5_endStroke_3 21 rfl rfl)
theorem dX5_endStroke_94 : decode cX5_endStroke 94 = .ok (.iload 6, 2) := dk_21 6 (dk_at dksX5_endStroke_4 0 rfl rfl)
theorem dX5_endStroke_96 : decode cX5_endStroke 96 = .ok (.iconst 4, 1) := dk_7 (dk_at dksX5_endStroke_4 2 rfl rfl)
theorem dX5_endStroke_97 : decode cX5_endStroke 97 = .ok (.iadd, 1) := dk_96 (dk_at dksX5_endStroke_4 3 rfl rfl)
theorem dX5_endStroke_98 : decode cX5_endStroke 98 = .ok (.aload_n 0, 1) := dk_42 (dk_at dksX5_endStroke_4 4 rfl rfl)
theorem dX5_endStroke_99 : decode cX5_endStroke 99 = .ok (.getfield 7, 3) := dk_180 0 7 (dk_at dksX5_endStroke_4 5 rfl rfl)
theorem dX5_endStroke_102 : decode cX5_endStroke 102 = .ok (.sipush 212, 3) := dk_17 0 212 (dk_at dksX5_endStroke_4 8 rfl rfl)
theorem dX5_endStroke_105 : decode cX5_endStroke 105 = .ok (.iload_n 1, 1) := dk_27 (dk_at dksX5_endStroke_4 11 rfl rfl)
theorem dX5_endStroke_106 : decode cX5_endStroke 106 = .ok (.iadd, 1) := dk_96 (dk_at dksX5_endStroke_4 12 rfl rfl)
theorem dX5_endStroke_107 : decode cX5_endStroke 107 = .ok (.iaload, 1) := dk_46 (dk_at dksX5_endStroke_4 13 rfl rfl)
theorem dX5_endStroke_108 : decode cX5_endStroke 108 = .ok (.iastore, 1) := dk_79 (dk_at dksX5_endStroke_4 14 rfl rfl)
theorem dX5_endStroke_109 : decode cX5_endStroke 109 = .ok (.aload_n 0, 1) := dk_42 (dk_at dksX5_endStroke_4 15 rfl rfl)
theorem dX5_endStroke_110 : decode cX5_endStroke 110 = .ok (.getfield 7, 3) := dk_180 0 7 (dk_at dksX5_endStroke_4 16 rfl rfl)
theorem dX5_endStroke_113 : decode cX5_endStroke 113 = .ok (.iload 6, 2) := dk_21 6 (dk_at dksX5_endStroke_4 19 rfl rfl)
theorem dX5_endStroke_115 : decode cX5_endStroke 115 = .ok (.iconst 5, 1) := dk_8 (dk_at dksX5_endStroke_4 21 rfl rfl)
theorem dX5_endStroke_116 : decode cX5_endStroke 116 = .ok (.iadd, 1) := dk_96 (dk_at dksX5_endStroke_4 22 rfl rfl)
theorem dX5_endStroke_117 : decode cX5_endStroke 117 = .ok (.aload_n 0, 1) := dk_42 (dk_at dksX5_endStroke_4 23 rfl rfl)
theorem dX5_endStroke_118 : decode cX5_endStroke 118 = .ok (.getfield 7, 3) := dk_180 0 7 (dk_at dksX5_endStroke_5 0 rfl rfl)
theorem dX5_endStroke_121 : decode cX5_endStroke 121 = .ok (.sipush 164, 3) := dk_17 0 164 (dk_at dksX5_endStroke_5 3 rfl rfl)
theorem dX5_endStroke_124 : decode cX5_endStroke 124 = .ok (.iload_n 1, 1) := dk_27 (dk_at dksX5_endStroke_5 6 rfl rfl)
theorem dX5_endStroke_125 : decode cX5_endStroke 125 = .ok (.iadd, 1) := dk_96 (dk_at dksX5_endStroke_5 7 rfl rfl)
theorem dX5_endStroke_126 : decode cX5_endStroke 126 = .ok (.iaload, 1) := dk_46 (dk_at dksX5_endStroke_5 8 rfl rfl)
theorem dX5_endStroke_127 : decode cX5_endStroke 127 = .ok (.iastore, 1) := dk_79 (dk_at dksX5_endStroke_5 9 rfl rfl)
theorem dX5_endStroke_128 : decode cX5_endStroke 128 = .ok (.aload_n 0, 1) := dk_42 (dk_at dksX5_endStroke_5 10 rfl rfl)
theorem dX5_endStroke_129 : decode cX5_endStroke 129 = .ok (.getfield 7, 3) := dk_180 0 7 (dk_at dksX5_endStroke_5 11 rfl rfl)
theorem dX5_endStroke_132 : decode cX5_endStroke 132 = .ok (.bipush 9, 2) := dk_16 9 (dk_at dksX5_endStroke_5 14 rfl rfl)
theorem dX5_endStroke_134 : decode cX5_endStroke 134 = .ok (.dup2, 1) := dk_92 (dk_at dksX5_endStroke_5 16 rfl rfl)
theorem dX5_endStroke_135 : decode cX5_endStroke 135 = .ok (.iaload, 1) := dk_46 (dk_at dksX5_endStroke_5 17 rfl rfl)
theorem dX5_endStroke_136 : decode cX5_endStroke 136 = .ok (.iconst 1, 1) := dk_4 (dk_at dksX5_endStroke_5 18 rfl rfl)
theorem dX5_endStroke_137 : decode cX5_endStroke 137 = .ok (.iadd, 1) := dk_96 (dk_at dksX5_endStroke_5 19 rfl rfl)
theorem dX5_endStroke_138 : decode cX5_endStroke 138 = .ok (.iastore, 1) := dk_79 (dk_at dksX5_endStroke_5 20 rfl rfl)
theorem dX5_endStroke_139 : decode cX5_endStroke 139 = .ok (.iload_n 2, 1) := dk_28 (dk_at dksX5_endStroke_5 21 rfl rfl)
theorem dX5_endStroke_140 : decode cX5_endStroke 140 = .ok (.iconst 3, 1) := dk_6 (dk_at dksX5_endStroke_5 22 rfl rfl)
theorem dX5_endStroke_141 : decode cX5_endStroke 141 = .ok (.if_icmp .ne 89, 3) := dk_160 0 89 (dk_at dksX5_endStroke_6 0 rfl rfl)
theorem dX5_endStroke_144 : decode cX5_endStroke 144 = .ok (.sipush 404, 3) := dk_17 1 148 (dk_at dksX5_endStroke_6 3 rfl rfl)
theorem dX5_endStroke_147 : decode cX5_endStroke 147 = .ok (.bipush 7, 2) := dk_16 7 (dk_at dksX5_endStroke_6 6 rfl rfl)
theorem dX5_endStroke_149 : decode cX5_endStroke 149 = .ok (.aload_n 0, 1) := dk_42 (dk_at dksX5_endStroke_6 8 rfl rfl)
theorem dX5_endStroke_150 : decode cX5_endStroke 150 = .ok (.getfield 7, 3) := dk_180 0 7 (dk_at dksX5_endStroke_6 9 rfl rfl)
theorem dX5_endStroke_153 : decode cX5_endStroke 153 = .ok (.bipush 16, 2) := dk_16 16 (dk_at dksX5_endStroke_6 12 rfl rfl)
theorem dX5_endStroke_155 : decode cX5_endStroke 155 = .ok (.iaload, 1) := dk_46 (dk_at dksX5_endStroke_6 14 rfl rfl)
theorem dX5_endStroke_156 : decode cX5_endStroke 156 = .ok (.imul, 1) := dk_104 (dk_at dksX5_endStroke_6 15 rfl rfl)
theorem dX5_endStroke_157 : decode cX5_endStroke 157 = .ok (.iadd, 1) := dk_96 (dk_at dksX5_endStroke_6 16 rfl rfl)
theorem dX5_endStroke_158 : decode cX5_endStroke 158 = .ok (.istore 7, 2) := dk_54 7 (dk_at dksX5_endStroke_6 17 rfl rfl)
theorem dX5_endStroke_160 : decode cX5_endStroke 160 = .ok (.iconst 0, 1) := dk_3 (dk_at dksX5_endStroke_6 19 rfl rfl)
theorem dX5_endStroke_161 : decode cX5_endStroke 161 = .ok (.istore 8, 2) := dk_54 8 (dk_at dksX5_endStroke_6 20 rfl rfl)
theorem dX5_endStroke_163 : decode cX5_endStroke 163 = .ok (.iload 8, 2) := dk_21 8 (dk_at dksX5_endStroke_6 22 rfl rfl)
theorem dX5_endStroke_165 : decode cX5_endStroke 165 = .ok (.bipush 6, 2) := dk_16 6 (dk_at dksX5_endStroke_7 0 rfl rfl)
theorem dX5_endStroke_167 : decode cX5_endStroke 167 = .ok (.if_icmp .ge 29, 3) := dk_162 0 29 (dk_at dksX5_endStroke_7 2 rfl rfl)
theorem dX5_endStroke_170 : decode cX5_endStroke 170 = .ok (.aload_n 0, 1) := dk_42 (dk_at dksX5_endStroke_7 5 rfl rfl)
theorem dX5_endStroke_171 : decode cX5_endStroke 171 = .ok (.getfield 7, 3) := dk_180 0 7 (dk_at dksX5_endStroke_7 6 rfl rfl)
theorem dX5_endStroke_174 : decode cX5_endStroke 174 = .ok (.iload 7, 2) := dk_21 7 (dk_at dksX5_endStroke_7 9 rfl rfl)
theorem dX5_endStroke_176 : decode cX5_endStroke 176 = .ok (.iload 8, 2) := dk_21 8 (dk_at dksX5_endStroke_7 11 rfl rfl)
theorem dX5_endStroke_178 : decode cX5_endStroke 178 = .ok (.iadd, 1) := dk_96 (dk_at dksX5_endStroke_7 13 rfl rfl)
theorem dX5_endStroke_179 : decode cX5_endStroke 179 = .ok (.aload_n 0, 1) := dk_42 (dk_at dksX5_endStroke_7 14 rfl rfl)
theorem dX5_endStroke_180 : decode cX5_endStroke 180 = .ok (.getfield 7, 3) := dk_180 0 7 (dk_at dksX5_endStroke_7 15 rfl rfl)
theorem dX5_endStroke_183 : decode cX5_endStroke 183 = .ok (.iload 6, 2) := dk_21 6 (dk_at dksX5_endStroke_7 18 rfl rfl)
theorem dX5_endStroke_185 : decode cX5_endStroke 185 = .ok (.iload 8, 2) := dk_21 8 (dk_at dksX5_endStroke_7 20 rfl rfl)
theorem dX5_endStroke_187 : decode cX5_endStroke 187 = .ok (.iadd, 1) := dk_96 (dk_at dksX5_endStroke_7 22 rfl rfl)
theorem dX5_endStroke_188 : decode cX5_endStroke 188 = .ok (.iaload, 1) := dk_46 (dk_at dksX5_endStroke_7 23 rfl rfl)
theorem dX5_endStroke_189 : decode cX5_endStroke 189 = .ok (.iastore, 1) := dk_79 (dk_at dksX5_endStroke_8 0 rfl rfl)
theorem dX5_endStroke_190 : decode cX5_endStroke 190 = .ok (.iinc 8 1, 3) := dk_132 8 1 (dk_at dksX5_endStroke_8 1 rfl rfl)
theorem dX5_endStroke_193 : decode cX5_endStroke 193 = .ok (.goto (-30), 3) := dk_167 255 226 (dk_at dksX5_endStroke_8 4 rfl rfl)
theorem dX5_endStroke_196 : decode cX5_endStroke 196 = .ok (.aload_n 0, 1) := dk_42 (dk_at dksX5_endStroke_8 7 rfl rfl)
theorem dX5_endStroke_197 : decode cX5_endStroke 197 = .ok (.getfield 7, 3) := dk_180 0 7 (dk_at dksX5_endStroke_8 8 rfl rfl)
theorem dX5_endStroke_200 : decode cX5_endStroke 200 = .ok (.iload 7, 2) := dk_21 7 (dk_at dksX5_endStroke_8 11 rfl rfl)
theorem dX5_endStroke_202 : decode cX5_endStroke 202 = .ok (.iconst 3, 1) := dk_6 (dk_at dksX5_endStroke_8 13 rfl rfl)
theorem dX5_endStroke_203 : decode cX5_endStroke 203 = .ok (.iadd, 1) := dk_96 (dk_at dksX5_endStroke_8 14 rfl rfl)
theorem dX5_endStroke_204 : decode cX5_endStroke 204 = .ok (.bipush (-5), 2) := dk_16 251 (dk_at dksX5_endStroke_8 15 rfl rfl)
theorem dX5_endStroke_206 : decode cX5_endStroke 206 = .ok (.iastore, 1) := dk_79 (dk_at dksX5_endStroke_8 17 rfl rfl)
theorem dX5_endStroke_207 : decode cX5_endStroke 207 = .ok (.aload_n 0, 1) := dk_42 (dk_at dksX5_endStroke_8 18 rfl rfl)
theorem dX5_endStroke_208 : decode cX5_endStroke 208 = .ok (.getfield 7, 3) := dk_180 0 7 (dk_at dksX5_endStroke_8 19 rfl rfl)
theorem dX5_endStroke_211 : decode cX5_endStroke 211 = .ok (.iload 7, 2) := dk_21 7 (dk_at dksX5_endStroke_8 22 rfl rfl)
theorem dX5_endStroke_213 : decode cX5_endStroke 213 = .ok (.bipush 6, 2) := dk_16 6 (dk_at dksX5_endStroke_9 0 rfl rfl)
theorem dX5_endStroke_215 : decode cX5_endStroke 215 = .ok (.iadd, 1) := dk_96 (dk_at dksX5_endStroke_9 2 rfl rfl)
theorem dX5_endStroke_216 : decode cX5_endStroke 216 = .ok (.iload 5, 2) := dk_21 5 (dk_at dksX5_endStroke_9 3 rfl rfl)
theorem dX5_endStroke_218 : decode cX5_endStroke 218 = .ok (.iastore, 1) := dk_79 (dk_at dksX5_endStroke_9 5 rfl rfl)
theorem dX5_endStroke_219 : decode cX5_endStroke 219 = .ok (.aload_n 0, 1) := dk_42 (dk_at dksX5_endStroke_9 6 rfl rfl)
theorem dX5_endStroke_220 : decode cX5_endStroke 220 = .ok (.getfield 7, 3) := dk_180 0 7 (dk_at dksX5_endStroke_9 7 rfl rfl)
theorem dX5_endStroke_223 : decode cX5_endStroke 223 = .ok (.bipush 16, 2) := dk_16 16 (dk_at dksX5_endStroke_9 10 rfl rfl)
theorem dX5_endStroke_225 : decode cX5_endStroke 225 = .ok (.dup2, 1) := dk_92 (dk_at dksX5_endStroke_9 12 rfl rfl)
theorem dX5_endStroke_226 : decode cX5_endStroke 226 = .ok (.iaload, 1) := dk_46 (dk_at dksX5_endStroke_9 13 rfl rfl)
theorem dX5_endStroke_227 : decode cX5_endStroke 227 = .ok (.iconst 1, 1) := dk_4 (dk_at dksX5_endStroke_9 14 rfl rfl)
theorem dX5_endStroke_228 : decode cX5_endStroke 228 = .ok (.iadd, 1) := dk_96 (dk_at dksX5_endStroke_9 15 rfl rfl)
theorem dX5_endStroke_229 : decode cX5_endStroke 229 = .ok (.iastore, 1) := dk_79 (dk_at dksX5_endStroke_9 16 rfl rfl)
theorem dX5_endStroke_230 : decode cX5_endStroke 230 = .ok (.aload_n 0, 1) := dk_42 (dk_at dksX5_endStroke_9 17 rfl rfl)
theorem dX5_endStroke_231 : decode cX5_endStroke 231 = .ok (.iload_n 2, 1) := dk_28 (dk_at dksX5_endStroke_9 18 rfl rfl)
theorem dX5_endStroke_232 : decode cX5_endStroke 232 = .ok (.aload_n 0, 1) := dk_42 (dk_at dksX5_endStroke_9 19 rfl rfl)
theorem dX5_endStroke_233 : decode cX5_endStroke 233 = .ok (.getfield 7, 3) := dk_180 0 7 (dk_at dksX5_endStroke_9 20 rfl rfl)
theorem dX5_endStroke_236 : decode cX5_endStroke 236 = .ok (.sipush 212, 3) := dk_17 0 212 (dk_at dksX5_endStroke_10 0 rfl rfl)
theorem dX5_endStroke_239 : decode cX5_endStroke 239 = .ok (.iload_n 1, 1) := dk_27 (dk_at dksX5_endStroke_10 3 rfl rfl)
theorem dX5_endStroke_240 : decode cX5_endStroke 240 = .ok (.iadd, 1) := dk_96 (dk_at dksX5_endStroke_10 4 rfl rfl)
theorem dX5_endStroke_241 : decode cX5_endStroke 241 = .ok (.iaload, 1) := dk_46 (dk_at dksX5_endStroke_10 5 rfl rfl)
theorem dX5_endStroke_242 : decode cX5_endStroke 242 = .ok (.invokevirtual 139, 3) := dk_182 0 139 (dk_at dksX5_endStroke_10 6 rfl rfl)
theorem dX5_endStroke_245 : decode cX5_endStroke 245 = .ok (.iload_n 2, 1) := dk_28 (dk_at dksX5_endStroke_10 9 rfl rfl)
theorem dX5_endStroke_246 : decode cX5_endStroke 246 = .ok (.iconst 2, 1) := dk_5 (dk_at dksX5_endStroke_10 10 rfl rfl)
theorem dX5_endStroke_247 : decode cX5_endStroke 247 = .ok (.if_icmp .ge 35, 3) := dk_162 0 35 (dk_at dksX5_endStroke_10 11 rfl rfl)
theorem dX5_endStroke_250 : decode cX5_endStroke 250 = .ok (.aload_n 0, 1) := dk_42 (dk_at dksX5_endStroke_10 14 rfl rfl)
theorem dX5_endStroke_251 : decode cX5_endStroke 251 = .ok (.iload_n 1, 1) := dk_27 (dk_at dksX5_endStroke_10 15 rfl rfl)
theorem dX5_endStroke_252 : decode cX5_endStroke 252 = .ok (.invokevirtual 82, 3) := dk_182 0 82 (dk_at dksX5_endStroke_10 16 rfl rfl)
theorem dX5_endStroke_255 : decode cX5_endStroke 255 = .ok (.ifCond .ge 11, 3) := dk_156 0 11 (dk_at dksX5_endStroke_10 19 rfl rfl)
theorem dX5_endStroke_258 : decode cX5_endStroke 258 = .ok (.aload_n 0, 1) := dk_42 (dk_at dksX5_endStroke_10 22 rfl rfl)
theorem dX5_endStroke_259 : decode cX5_endStroke 259 = .ok (.iload_n 2, 1) := dk_28 (dk_at dksX5_endStroke_10 23 rfl rfl)
theorem dX5_endStroke_260 : decode cX5_endStroke 260 = .ok (.iload_n 3, 1) := dk_29 (dk_at dksX5_endStroke_11 0 rfl rfl)
theorem dX5_endStroke_261 : decode cX5_endStroke 261 = .ok (.iload 4, 2) := dk_21 4 (dk_at dksX5_endStroke_11 1 rfl rfl)
theorem dX5_endStroke_263 : decode cX5_endStroke 263 = .ok (.invokevirtual 143, 3) := dk_182 0 143 (dk_at dksX5_endStroke_11 3 rfl rfl)
theorem dX5_endStroke_266 : decode cX5_endStroke 266 = .ok (.aload_n 0, 1) := dk_42 (dk_at dksX5_endStroke_11 6 rfl rfl)
theorem dX5_endStroke_267 : decode cX5_endStroke 267 = .ok (.iload_n 2, 1) := dk_28 (dk_at dksX5_endStroke_11 7 rfl rfl)
theorem dX5_endStroke_268 : decode cX5_endStroke 268 = .ok (.iload_n 1, 1) := dk_27 (dk_at dksX5_endStroke_11 8 rfl rfl)
theorem dX5_endStroke_269 : decode cX5_endStroke 269 = .ok (.aload_n 0, 1) := dk_42 (dk_at dksX5_endStroke_11 9 rfl rfl)
theorem dX5_endStroke_270 : decode cX5_endStroke 270 = .ok (.getfield 7, 3) := dk_180 0 7 (dk_at dksX5_endStroke_11 10 rfl rfl)
theorem dX5_endStroke_273 : decode cX5_endStroke 273 = .ok (.sipush 164, 3) := dk_17 0 164 (dk_at dksX5_endStroke_11 13 rfl rfl)
theorem dX5_endStroke_276 : decode cX5_endStroke 276 = .ok (.iload_n 1, 1) := dk_27 (dk_at dksX5_endStroke_11 16 rfl rfl)
theorem dX5_endStroke_277 : decode cX5_endStroke 277 = .ok (.iadd, 1) := dk_96 (dk_at dksX5_endStroke_11 17 rfl rfl)
theorem dX5_endStroke_278 : decode cX5_endStroke 278 = .ok (.iaload, 1) := dk_46 (dk_at dksX5_endStroke_11 18 rfl rfl)
theorem dX5_endStroke_279 : decode cX5_endStroke 279 = .ok (.invokevirtual 147, 3) := dk_182 0 147 (dk_at dksX5_endStroke_11 19 rfl rfl)
theorem dX5_endStroke_282 : decode cX5_endStroke 282 = .ok (.aload_n 0, 1) := dk_42 (dk_at dksX5_endStroke_11 22 rfl rfl)
theorem dX5_endStroke_283 : decode cX5_endStroke 283 = .ok (.getfield 7, 3) := dk_180 0 7 (dk_at dksX5_endStroke_12 0 rfl rfl)
theorem dX5_endStroke_286 : decode cX5_endStroke 286 = .ok (.bipush 68, 2) := dk_16 68 (dk_at dksX5_endStroke_12 3 rfl rfl)
theorem dX5_endStroke_288 : decode cX5_endStroke 288 = .ok (.iload_n 1, 1) := dk_27 (dk_at dksX5_endStroke_12 5 rfl rfl)
theorem dX5_endStroke_289 : decode cX5_endStroke 289 = .ok (.iadd, 1) := dk_96 (dk_at dksX5_endStroke_12 6 rfl rfl)
theorem dX5_endStroke_290 : decode cX5_endStroke 290 = .ok (.bipush (-5), 2) := dk_16 251 (dk_at dksX5_endStroke_12 7 rfl rfl)
theorem dX5_endStroke_292 : decode cX5_endStroke 292 = .ok (.iastore, 1) := dk_79 (dk_at dksX5_endStroke_12 9 rfl rfl)
theorem dX5_endStroke_293 : decode cX5_endStroke 293 = .ok (.aload_n 0, 1) := dk_42 (dk_at dksX5_endStroke_12 10 rfl rfl)
theorem dX5_endStroke_294 : decode cX5_endStroke 294 = .ok (.getfield 7, 3) := dk_180 0 7 (dk_at dksX5_endStroke_12 11 rfl rfl)
theorem dX5_endStroke_297 : decode cX5_endStroke 297 = .ok (.bipush 116, 2) := dk_16 116 (dk_at dksX5_endStroke_12 14 rfl rfl)
theorem dX5_endStroke_299 : decode cX5_endStroke 299 = .ok (.iload_n 1, 1) := dk_27 (dk_at dksX5_endStroke_12 16 rfl rfl)
theorem dX5_endStroke_300 : decode cX5_endStroke 300 = .ok (.iadd, 1) := dk_96 (dk_at dksX5_endStroke_12 17 rfl rfl)
theorem dX5_endStroke_301 : decode cX5_endStroke 301 = .ok (.iconst 0, 1) := dk_3 (dk_at dksX5_endStroke_12 18 rfl rfl)
theorem dX5_endStroke_302 : decode cX5_endStroke 302 = .ok (.iastore, 1) := dk_79 (dk_at dksX5_endStroke_12 19 rfl rfl)
theorem dX5_endStroke_303 : decode cX5_endStroke 303 = .ok (.return_, 1) := dk_177 (dk_at dksX5_endStroke_12 20 rfl rfl)
abbrev cX5_judged : ByteArray := prog_11_method_32_code
def yX5_judged : MethodName := ⟨RX5, "judged", "(I)I"⟩
def dkwX5_judged_7 : List UInt8 := [21, 8, 172]
abbrev dktX5_judged_7 : List UInt8 := dkwX5_judged_7 ++ []
def dkwX5_judged_6 : List UInt8 := [48, 150, 156, 0, 21, 42, 180, 0, 7, 16, 16, 46, 16, 20, 160, 0, 7, 5, 167, 0, 4, 6, 172]
abbrev dktX5_judged_6 : List UInt8 := dkwX5_judged_6 ++ dktX5_judged_7
def dkwX5_judged_5 : List UInt8 := [150, 157, 0, 8, 21, 8, 167, 0, 4, 5, 172, 23, 6, 23, 7, 102, 184, 0, 120, 42, 180, 0, 22, 7]
abbrev dktX5_judged_5 : List UInt8 := dkwX5_judged_5 ++ dktX5_judged_6
def dkwX5_judged_4 : List UInt8 := [54, 8, 29, 153, 0, 32, 21, 8, 154, 0, 8, 23, 6, 167, 0, 5, 23, 7, 42, 180, 0, 22, 8, 48]
abbrev dktX5_judged_4 : List UInt8 := dkwX5_judged_4 ++ dktX5_judged_5
def dkwX5_judged_3 : List UInt8 := [42, 4, 21, 4, 21, 5, 182, 0, 132, 56, 7, 23, 7, 23, 6, 150, 156, 0, 7, 4, 167, 0, 4, 3]
abbrev dktX5_judged_3 : List UInt8 := dkwX5_judged_3 ++ dktX5_judged_4
def dkwX5_judged_2 : List UInt8 := [54, 4, 42, 180, 0, 7, 5, 46, 21, 4, 100, 54, 5, 42, 3, 21, 4, 21, 5, 182, 0, 132, 56, 6]
abbrev dktX5_judged_2 : List UInt8 := dkwX5_judged_2 ++ dktX5_judged_3
def dkwX5_judged_1 : List UInt8 := [62, 28, 155, 0, 13, 29, 153, 0, 7, 5, 167, 0, 4, 28, 172, 42, 180, 0, 7, 16, 68, 27, 96, 46]
abbrev dktX5_judged_1 : List UInt8 := dkwX5_judged_1 ++ dktX5_judged_2
def dkwX5_judged_0 : List UInt8 := [42, 27, 182, 0, 82, 61, 42, 180, 0, 7, 16, 116, 27, 96, 46, 4, 160, 0, 7, 4, 167, 0, 4, 3]
abbrev dktX5_judged_0 : List UInt8 := dkwX5_judged_0 ++ dktX5_judged_1
theorem dksX5_judged_0 : cX5_judged.data.toList.drop 0 = dktX5_judged_0 := by decide +kernel
theorem dksX5_judged_1 : cX5_judged.data.toList.drop 24 = dktX5_judged_1 := dk_seg dksX5_judged_0 24 rfl rfl
theorem dksX5_judged_2 : cX5_judged.data.toList.drop 48 = dktX5_judged_2 := dk_seg dksX5_judged_1 24 rfl rfl
theorem dksX5_judged_3 : cX5_judged.data.toList.drop 72 = dktX5_judged_3 := dk_seg dksX5_judged_2 24 rfl rfl
theorem dksX5_judged_4 : cX5_judged.data.toList.drop 96 = dktX5_judged_4 := dk_seg dksX5_judged_3 24 rfl rfl
theorem dksX5_judged_5 : cX5_judged.data.toList.drop 120 = dktX5_judged_5 := dk_seg dksX5_judged_4 24 rfl rfl
theorem dksX5_judged_6 : cX5_judged.data.toList.drop 144 = dktX5_judged_6 := dk_seg dksX5_judged_5 24 rfl rfl
theorem dksX5_judged_7 : cX5_judged.data.toList.drop 167 = dktX5_judged_7 := dk_seg dksX5_judged_6 23 rfl rfl
theorem dX5_judged_0 : decode cX5_judged 0 = .ok (.aload_n 0, 1) := dk_42 (dk_at dksX5_judged_0 0 rfl rfl)
theorem dX5_judged_1 : decode cX5_judged 1 = .ok (.iload_n 1, 1) := dk_27 (dk_at dksX5_judged_0 1 rfl rfl)
theorem dX5_judged_2 : decode cX5_judged 2 = .ok (.invokevirtual 82, 3) := dk_182 0 82 (dk_at dksX5_judged_0 2 rfl rfl)
theorem dX5_judged_5 : decode cX5_judged 5 = .ok (.istore_n 2, 1) := dk_61 (dk_at dksX5_judged_0 5 rfl rfl)
theorem dX5_judged_6 : decode cX5_judged 6 = .ok (.aload_n 0, 1) := dk_42 (dk_at dksX5_judged_0 6 rfl rfl)
theorem dX5_judged_7 : decode cX5_judged 7 = .ok (.getfield 7, 3) := dk_180 0 7 (dk_at dksX5_judged_0 7 rfl rfl)
theorem dX5_judged_10 : decode cX5_judged 10 = .ok (.bipush 116, 2) := dk_16 116 (dk_at dksX5_judged_0 10 rfl rfl)
theorem dX5_judged_12 : decode cX5_judged 12 = .ok (.iload_n 1, 1) := dk_27 (dk_at dksX5_judged_0 12 rfl rfl)
theorem dX5_judged_13 : decode cX5_judged 13 = .ok (.iadd, 1) := dk_96 (dk_at dksX5_judged_0 13 rfl rfl)
theorem dX5_judged_14 : decode cX5_judged 14 = .ok (.iaload, 1) := dk_46 (dk_at dksX5_judged_0 14 rfl rfl)
theorem dX5_judged_15 : decode cX5_judged 15 = .ok (.iconst 1, 1) := dk_4 (dk_at dksX5_judged_0 15 rfl rfl)
theorem dX5_judged_16 : decode cX5_judged 16 = .ok (.if_icmp .ne 7, 3) := dk_160 0 7 (dk_at dksX5_judged_0 16 rfl rfl)
theorem dX5_judged_19 : decode cX5_judged 19 = .ok (.iconst 1, 1) := dk_4 (dk_at dksX5_judged_0 19 rfl rfl)
theorem dX5_judged_20 : decode cX5_judged 20 = .ok (.goto 4, 3) := dk_167 0 4 (dk_at dksX5_judged_0 20 rfl rfl)
theorem dX5_judged_23 : decode cX5_judged 23 = .ok (.iconst 0, 1) := dk_3 (dk_at dksX5_judged_0 23 rfl rfl)
theorem dX5_judged_24 : decode cX5_judged 24 = .ok (.istore_n 3, 1) := dk_62 (dk_at dksX5_judged_1 0 rfl rfl)
theorem dX5_judged_25 : decode cX5_judged 25 = .ok (.iload_n 2, 1) := dk_28 (dk_at dksX5_judged_1 1 rfl rfl)
theorem dX5_judged_26 : decode cX5_judged 26 = .ok (.ifCond .lt 13, 3) := dk_155 0 13 (dk_at dksX5_judged_1 2 rfl rfl)
theorem dX5_judged_29 : decode cX5_judged 29 = .ok (.iload_n 3, 1) := dk_29 (dk_at dksX5_judged_1 5 rfl rfl)
theorem dX5_judged_30 : decode cX5_judged 30 = .ok (.ifCond .eq 7, 3) := dk_153 0 7 (dk_at dksX5_judged_1 6 rfl rfl)
theorem dX5_judged_33 : decode cX5_judged 33 = .ok (.iconst 2, 1) := dk_5 (dk_at dksX5_judged_1 9 rfl rfl)
theorem dX5_judged_34 : decode cX5_judged 34 = .ok (.goto 4, 3) := dk_167 0 4 (dk_at dksX5_judged_1 10 rfl rfl)
theorem dX5_judged_37 : decode cX5_judged 37 = .ok (.iload_n 2, 1) := dk_28 (dk_at dksX5_judged_1 13 rfl rfl)
theorem dX5_judged_38 : decode cX5_judged 38 = .ok (.ireturn, 1) := dk_172 (dk_at dksX5_judged_1 14 rfl rfl)
theorem dX5_judged_39 : decode cX5_judged 39 = .ok (.aload_n 0, 1) := dk_42 (dk_at dksX5_judged_1 15 rfl rfl)
theorem dX5_judged_40 : decode cX5_judged 40 = .ok (.getfield 7, 3) := dk_180 0 7 (dk_at dksX5_judged_1 16 rfl rfl)
theorem dX5_judged_43 : decode cX5_judged 43 = .ok (.bipush 68, 2) := dk_16 68 (dk_at dksX5_judged_1 19 rfl rfl)
theorem dX5_judged_45 : decode cX5_judged 45 = .ok (.iload_n 1, 1) := dk_27 (dk_at dksX5_judged_1 21 rfl rfl)
theorem dX5_judged_46 : decode cX5_judged 46 = .ok (.iadd, 1) := dk_96 (dk_at dksX5_judged_1 22 rfl rfl)
theorem dX5_judged_47 : decode cX5_judged 47 = .ok (.iaload, 1) := dk_46 (dk_at dksX5_judged_1 23 rfl rfl)
theorem dX5_judged_48 : decode cX5_judged 48 = .ok (.istore 4, 2) := dk_54 4 (dk_at dksX5_judged_2 0 rfl rfl)
theorem dX5_judged_50 : decode cX5_judged 50 = .ok (.aload_n 0, 1) := dk_42 (dk_at dksX5_judged_2 2 rfl rfl)
theorem dX5_judged_51 : decode cX5_judged 51 = .ok (.getfield 7, 3) := dk_180 0 7 (dk_at dksX5_judged_2 3 rfl rfl)
theorem dX5_judged_54 : decode cX5_judged 54 = .ok (.iconst 2, 1) := dk_5 (dk_at dksX5_judged_2 6 rfl rfl)
theorem dX5_judged_55 : decode cX5_judged 55 = .ok (.iaload, 1) := dk_46 (dk_at dksX5_judged_2 7 rfl rfl)
theorem dX5_judged_56 : decode cX5_judged 56 = .ok (.iload 4, 2) := dk_21 4 (dk_at dksX5_judged_2 8 rfl rfl)
theorem dX5_judged_58 : decode cX5_judged 58 = .ok (.isub, 1) := dk_100 (dk_at dksX5_judged_2 10 rfl rfl)
theorem dX5_judged_59 : decode cX5_judged 59 = .ok (.istore 5, 2) := dk_54 5 (dk_at dksX5_judged_2 11 rfl rfl)
theorem dX5_judged_61 : decode cX5_judged 61 = .ok (.aload_n 0, 1) := dk_42 (dk_at dksX5_judged_2 13 rfl rfl)
theorem dX5_judged_62 : decode cX5_judged 62 = .ok (.iconst 0, 1) := dk_3 (dk_at dksX5_judged_2 14 rfl rfl)
theorem dX5_judged_63 : decode cX5_judged 63 = .ok (.iload 4, 2) := dk_21 4 (dk_at dksX5_judged_2 15 rfl rfl)
theorem dX5_judged_65 : decode cX5_judged 65 = .ok (.iload 5, 2) := dk_21 5 (dk_at dksX5_judged_2 17 rfl rfl)
theorem dX5_judged_67 : decode cX5_judged 67 = .ok (.invokevirtual 132, 3) := dk_182 0 132 (dk_at dksX5_judged_2 19 rfl rfl)
theorem dX5_judged_70 : decode cX5_judged 70 = .ok (.fstore 6, 2) := dk_56 6 (dk_at dksX5_judged_2 22 rfl rfl)
theorem dX5_judged_72 : decode cX5_judged 72 = .ok (.aload_n 0, 1) := dk_42 (dk_at dksX5_judged_3 0 rfl rfl)
theorem dX5_judged_73 : decode cX5_judged 73 = .ok (.iconst 1, 1) := dk_4 (dk_at dksX5_judged_3 1 rfl rfl)
theorem dX5_judged_74 : decode cX5_judged 74 = .ok (.iload 4, 2) := dk_21 4 (dk_at dksX5_judged_3 2 rfl rfl)
theorem dX5_judged_76 : decode cX5_judged 76 = .ok (.iload 5, 2) := dk_21 5 (dk_at dksX5_judged_3 4 rfl rfl)
theorem dX5_judged_78 : decode cX5_judged 78 = .ok (.invokevirtual 132, 3) := dk_182 0 132 (dk_at dksX5_judged_3 6 rfl rfl)
theorem dX5_judged_81 : decode cX5_judged 81 = .ok (.fstore 7, 2) := dk_56 7 (dk_at dksX5_judged_3 9 rfl rfl)
theorem dX5_judged_83 : decode cX5_judged 83 = .ok (.fload 7, 2) := dk_23 7 (dk_at dksX5_judged_3 11 rfl rfl)
theorem dX5_judged_85 : decode cX5_judged 85 = .ok (.fload 6, 2) := dk_23 6 (dk_at dksX5_judged_3 13 rfl rfl)
theorem dX5_judged_87 : decode cX5_judged 87 = .ok (.fcmp .g, 1) := dk_150 (dk_at dksX5_judged_3 15 rfl rfl)
theorem dX5_judged_88 : decode cX5_judged 88 = .ok (.ifCond .ge 7, 3) := dk_156 0 7 (dk_at dksX5_judged_3 16 rfl rfl)
theorem dX5_judged_91 : decode cX5_judged 91 = .ok (.iconst 1, 1) := dk_4 (dk_at dksX5_judged_3 19 rfl rfl)
theorem dX5_judged_92 : decode cX5_judged 92 = .ok (.goto 4, 3) := dk_167 0 4 (dk_at dksX5_judged_3 20 rfl rfl)
theorem dX5_judged_95 : decode cX5_judged 95 = .ok (.iconst 0, 1) := dk_3 (dk_at dksX5_judged_3 23 rfl rfl)
theorem dX5_judged_96 : decode cX5_judged 96 = .ok (.istore 8, 2) := dk_54 8 (dk_at dksX5_judged_4 0 rfl rfl)
theorem dX5_judged_98 : decode cX5_judged 98 = .ok (.iload_n 3, 1) := dk_29 (dk_at dksX5_judged_4 2 rfl rfl)
theorem dX5_judged_99 : decode cX5_judged 99 = .ok (.ifCond .eq 32, 3) := dk_153 0 32 (dk_at dksX5_judged_4 3 rfl rfl)
theorem dX5_judged_102 : decode cX5_judged 102 = .ok (.iload 8, 2) := dk_21 8 (dk_at dksX5_judged_4 6 rfl rfl)
theorem dX5_judged_104 : decode cX5_judged 104 = .ok (.ifCond .ne 8, 3) := dk_154 0 8 (dk_at dksX5_judged_4 8 rfl rfl)
theorem dX5_judged_107 : decode cX5_judged 107 = .ok (.fload 6, 2) := dk_23 6 (dk_at dksX5_judged_4 11 rfl rfl)
theorem dX5_judged_109 : decode cX5_judged 109 = .ok (.goto 5, 3) := dk_167 0 5 (dk_at dksX5_judged_4 13 rfl rfl)
theorem dX5_judged_112 : decode cX5_judged 112 = .ok (.fload 7, 2) := dk_23 7 (dk_at dksX5_judged_4 16 rfl rfl)
theorem dX5_judged_114 : decode cX5_judged 114 = .ok (.aload_n 0, 1) := dk_42 (dk_at dksX5_judged_4 18 rfl rfl)
theorem dX5_judged_115 : decode cX5_judged 115 = .ok (.getfield 22, 3) := dk_180 0 22 (dk_at dksX5_judged_4 19 rfl rfl)
theorem dX5_judged_118 : decode cX5_judged 118 = .ok (.iconst 5, 1) := dk_8 (dk_at dksX5_judged_4 22 rfl rfl)
theorem dX5_judged_119 : decode cX5_judged 119 = .ok (.faload, 1) := dk_48 (dk_at dksX5_judged_4 23 rfl rfl)
theorem dX5_judged_120 : decode cX5_judged 120 = .ok (.fcmp .g, 1) := dk_150 (dk_at dksX5_judged_5 0 rfl rfl)
theorem dX5_judged_121 : decode cX5_judged 121 = .ok (.ifCond .gt 8, 3) := dk_157 0 8 (dk_at dksX5_judged_5 1 rfl rfl)
theorem dX5_judged_124 : decode cX5_judged 124 = .ok (.iload 8, 2) := dk_21 8 (dk_at dksX5_judged_5 4 rfl rfl)
theorem dX5_judged_126 : decode cX5_judged 126 = .ok (.goto 4, 3) := dk_167 0 4 (dk_at dksX5_judged_5 6 rfl rfl)
theorem dX5_judged_129 : decode cX5_judged 129 = .ok (.iconst 2, 1) := dk_5 (dk_at dksX5_judged_5 9 rfl rfl)
theorem dX5_judged_130 : decode cX5_judged 130 = .ok (.ireturn, 1) := dk_172 (dk_at dksX5_judged_5 10 rfl rfl)
theorem dX5_judged_131 : decode cX5_judged 131 = .ok (.fload 6, 2) := dk_23 6 (dk_at dksX5_judged_5 11 rfl rfl)
theorem dX5_judged_133 : decode cX5_judged 133 = .ok (.fload 7, 2) := dk_23 7 (dk_at dksX5_judged_5 13 rfl rfl)
theorem dX5_judged_135 : decode cX5_judged 135 = .ok (.fsub, 1) := dk_102 (dk_at dksX5_judged_5 15 rfl rfl)
theorem dX5_judged_136 : decode cX5_judged 136 = .ok (.invokestatic 120, 3) := dk_184 0 120 (dk_at dksX5_judged_5 16 rfl rfl)
theorem dX5_judged_139 : decode cX5_judged 139 = .ok (.aload_n 0, 1) := dk_42 (dk_at dksX5_judged_5 19 rfl rfl)
theorem dX5_judged_140 : decode cX5_judged 140 = .ok (.getfield 22, 3) := dk_180 0 22 (dk_at dksX5_judged_5 20 rfl rfl)
theorem dX5_judged_143 : decode cX5_judged 143 = .ok (.iconst 4, 1) := dk_7 (dk_at dksX5_judged_5 23 rfl rfl)
theorem dX5_judged_144 : decode cX5_judged 144 = .ok (.faload, 1) := dk_48 (dk_at dksX5_judged_6 0 rfl rfl)
theorem dX5_judged_145 : decode cX5_judged 145 = .ok (.fcmp .g, 1) := dk_150 (dk_at dksX5_judged_6 1 rfl rfl)
theorem dX5_judged_146 : decode cX5_judged 146 = .ok (.ifCond .ge 21, 3) := dk_156 0 21 (dk_at dksX5_judged_6 2 rfl rfl)
theorem dX5_judged_149 : decode cX5_judged 149 = .ok (.aload_n 0, 1) := dk_42 (dk_at dksX5_judged_6 5 rfl rfl)
theorem dX5_judged_150 : decode cX5_judged 150 = .ok (.getfield 7, 3) := dk_180 0 7 (dk_at dksX5_judged_6 6 rfl rfl)
theorem dX5_judged_153 : decode cX5_judged 153 = .ok (.bipush 16, 2) := dk_16 16 (dk_at dksX5_judged_6 9 rfl rfl)
theorem dX5_judged_155 : decode cX5_judged 155 = .ok (.iaload, 1) := dk_46 (dk_at dksX5_judged_6 11 rfl rfl)
theorem dX5_judged_156 : decode cX5_judged 156 = .ok (.bipush 20, 2) := dk_16 20 (dk_at dksX5_judged_6 12 rfl rfl)
theorem dX5_judged_158 : decode cX5_judged 158 = .ok (.if_icmp .ne 7, 3) := dk_160 0 7 (dk_at dksX5_judged_6 14 rfl rfl)
theorem dX5_judged_161 : decode cX5_judged 161 = .ok (.iconst 2, 1) := dk_5 (dk_at dksX5_judged_6 17 rfl rfl)
theorem dX5_judged_162 : decode cX5_judged 162 = .ok (.goto 4, 3) := dk_167 0 4 (dk_at dksX5_judged_6 18 rfl rfl)
theorem dX5_judged_165 : decode cX5_judged 165 = .ok (.iconst 3, 1) := dk_6 (dk_at dksX5_judged_6 21 rfl rfl)
theorem dX5_judged_166 : decode cX5_judged 166 = .ok (.ireturn, 1) := dk_172 (dk_at dksX5_judged_6 22 rfl rfl)
theorem dX5_judged_167 : decode cX5_judged 167 = .ok (.iload 8, 2) := dk_21 8 (dk_at dksX5_judged_7 0 rfl rfl)
theorem dX5_judged_169 : decode cX5_judged 169 = .ok (.ireturn, 1) := dk_172 (dk_at dksX5_judged_7 2 rfl rfl)
abbrev cX5_off : ByteArray := prog_11_method_29_code
def yX5_off : MethodName := ⟨RX5, "off", "(III)F"⟩
def dkwX5_off_2 : List UInt8 := [56, 7, 23, 5, 21, 6, 134, 23, 7, 102, 184, 0, 120, 23, 7, 110, 18, 42, 106, 98, 174]
abbrev dktX5_off_2 : List UInt8 := dkwX5_off_2 ++ []
def dkwX5_off_1 : List UInt8 := [27, 28, 182, 0, 124, 54, 6, 21, 6, 156, 0, 6, 23, 5, 174, 42, 180, 0, 22, 5, 27, 96, 48]
abbrev dktX5_off_1 : List UInt8 := dkwX5_off_1 ++ dktX5_off_2
def dkwX5_off_0 : List UInt8 := [42, 180, 0, 22, 3, 27, 96, 48, 56, 4, 29, 134, 23, 4, 102, 184, 0, 120, 23, 4, 110, 56, 5, 42]
abbrev dktX5_off_0 : List UInt8 := dkwX5_off_0 ++ dktX5_off_1
theorem dksX5_off_0 : cX5_off.data.toList.drop 0 = dktX5_off_0 := by decide +kernel
theorem dksX5_off_1 : cX5_off.data.toList.drop 24 = dktX5_off_1 := dk_seg dksX5_off_0 24 rfl rfl
theorem dksX5_off_2 : cX5_off.data.toList.drop 47 = dktX5_off_2 := dk_seg dksX5_off_1 23 rfl rfl
theorem dX5_off_0 : decode cX5_off 0 = .ok (.aload_n 0, 1) := dk_42 (dk_at dksX5_off_0 0 rfl rfl)
theorem dX5_off_1 : decode cX5_off 1 = .ok (.getfield 22, 3) := dk_180 0 22 (dk_at dksX5_off_0 1 rfl rfl)
theorem dX5_off_4 : decode cX5_off 4 = .ok (.iconst 0, 1) := dk_3 (dk_at dksX5_off_0 4 rfl rfl)
theorem dX5_off_5 : decode cX5_off 5 = .ok (.iload_n 1, 1) := dk_27 (dk_at dksX5_off_0 5 rfl rfl)
theorem dX5_off_6 : decode cX5_off 6 = .ok (.iadd, 1) := dk_96 (dk_at dksX5_off_0 6 rfl rfl)
theorem dX5_off_7 : decode cX5_off 7 = .ok (.faload, 1) := dk_48 (dk_at dksX5_off_0 7 rfl rfl)
theorem dX5_off_8 : decode cX5_off 8 = .ok (.fstore 4, 2) := dk_56 4 (dk_at dksX5_off_0 8 rfl rfl)
theorem dX5_off_10 : decode cX5_off 10 = .ok (.iload_n 3, 1) := dk_29 (dk_at dksX5_off_0 10 rfl rfl)
theorem dX5_off_11 : decode cX5_off 11 = .ok (.i2f, 1) := dk_134 (dk_at dksX5_off_0 11 rfl rfl)
theorem dX5_off_12 : decode cX5_off 12 = .ok (.fload 4, 2) := dk_23 4 (dk_at dksX5_off_0 12 rfl rfl)
theorem dX5_off_14 : decode cX5_off 14 = .ok (.fsub, 1) := dk_102 (dk_at dksX5_off_0 14 rfl rfl)
theorem dX5_off_15 : decode cX5_off 15 = .ok (.invokestatic 120, 3) := dk_184 0 120 (dk_at dksX5_off_0 15 rfl rfl)
theorem dX5_off_18 : decode cX5_off 18 = .ok (.fload 4, 2) := dk_23 4 (dk_at dksX5_off_0 18 rfl rfl)
theorem dX5_off_20 : decode cX5_off 20 = .ok (.fdiv, 1) := dk_110 (dk_at dksX5_off_0 20 rfl rfl)
theorem dX5_off_21 : decode cX5_off 21 = .ok (.fstore 5, 2) := dk_56 5 (dk_at dksX5_off_0 21 rfl rfl)
theorem dX5_off_23 : decode cX5_off 23 = .ok (.aload_n 0, 1) := dk_42 (dk_at dksX5_off_0 23 rfl rfl)
theorem dX5_off_24 : decode cX5_off 24 = .ok (.iload_n 1, 1) := dk_27 (dk_at dksX5_off_1 0 rfl rfl)
theorem dX5_off_25 : decode cX5_off 25 = .ok (.iload_n 2, 1) := dk_28 (dk_at dksX5_off_1 1 rfl rfl)
theorem dX5_off_26 : decode cX5_off 26 = .ok (.invokevirtual 124, 3) := dk_182 0 124 (dk_at dksX5_off_1 2 rfl rfl)
theorem dX5_off_29 : decode cX5_off 29 = .ok (.istore 6, 2) := dk_54 6 (dk_at dksX5_off_1 5 rfl rfl)
theorem dX5_off_31 : decode cX5_off 31 = .ok (.iload 6, 2) := dk_21 6 (dk_at dksX5_off_1 7 rfl rfl)
theorem dX5_off_33 : decode cX5_off 33 = .ok (.ifCond .ge 6, 3) := dk_156 0 6 (dk_at dksX5_off_1 9 rfl rfl)
theorem dX5_off_36 : decode cX5_off 36 = .ok (.fload 5, 2) := dk_23 5 (dk_at dksX5_off_1 12 rfl rfl)
theorem dX5_off_38 : decode cX5_off 38 = .ok (.freturn, 1) := dk_174 (dk_at dksX5_off_1 14 rfl rfl)
theorem dX5_off_39 : decode cX5_off 39 = .ok (.aload_n 0, 1) := dk_42 (dk_at dksX5_off_1 15 rfl rfl)
theorem dX5_off_40 : decode cX5_off 40 = .ok (.getfield 22, 3) := dk_180 0 22 (dk_at dksX5_off_1 16 rfl rfl)
theorem dX5_off_43 : decode cX5_off 43 = .ok (.iconst 2, 1) := dk_5 (dk_at dksX5_off_1 19 rfl rfl)
theorem dX5_off_44 : decode cX5_off 44 = .ok (.iload_n 1, 1) := dk_27 (dk_at dksX5_off_1 20 rfl rfl)
theorem dX5_off_45 : decode cX5_off 45 = .ok (.iadd, 1) := dk_96 (dk_at dksX5_off_1 21 rfl rfl)
theorem dX5_off_46 : decode cX5_off 46 = .ok (.faload, 1) := dk_48 (dk_at dksX5_off_1 22 rfl rfl)
theorem dX5_off_47 : decode cX5_off 47 = .ok (.fstore 7, 2) := dk_56 7 (dk_at dksX5_off_2 0 rfl rfl)
theorem dX5_off_49 : decode cX5_off 49 = .ok (.fload 5, 2) := dk_23 5 (dk_at dksX5_off_2 2 rfl rfl)
theorem dX5_off_51 : decode cX5_off 51 = .ok (.iload 6, 2) := dk_21 6 (dk_at dksX5_off_2 4 rfl rfl)
theorem dX5_off_53 : decode cX5_off 53 = .ok (.i2f, 1) := dk_134 (dk_at dksX5_off_2 6 rfl rfl)
theorem dX5_off_54 : decode cX5_off 54 = .ok (.fload 7, 2) := dk_23 7 (dk_at dksX5_off_2 7 rfl rfl)
theorem dX5_off_56 : decode cX5_off 56 = .ok (.fsub, 1) := dk_102 (dk_at dksX5_off_2 9 rfl rfl)
theorem dX5_off_57 : decode cX5_off 57 = .ok (.invokestatic 120, 3) := dk_184 0 120 (dk_at dksX5_off_2 10 rfl rfl)
theorem dX5_off_60 : decode cX5_off 60 = .ok (.fload 7, 2) := dk_23 7 (dk_at dksX5_off_2 13 rfl rfl)
theorem dX5_off_62 : decode cX5_off 62 = .ok (.fdiv, 1) := dk_110 (dk_at dksX5_off_2 15 rfl rfl)
theorem dX5_off_63 : decode cX5_off 63 = .ok (.ldc 42, 2) := dk_18 42 (dk_at dksX5_off_2 16 rfl rfl)
theorem dX5_off_65 : decode cX5_off 65 = .ok (.fmul, 1) := dk_106 (dk_at dksX5_off_2 18 rfl rfl)
theorem dX5_off_66 : decode cX5_off 66 = .ok (.fadd, 1) := dk_98 (dk_at dksX5_off_2 19 rfl rfl)
theorem dX5_off_67 : decode cX5_off 67 = .ok (.freturn, 1) := dk_174 (dk_at dksX5_off_2 20 rfl rfl)
abbrev cX5_size : ByteArray := prog_11_method_27_code
def yX5_size : MethodName := ⟨RX5, "size", "(F)F"⟩
def dkwX5_size_0 : List UInt8 := [34, 11, 150, 156, 0, 8, 34, 118, 167, 0, 4, 34, 174]
abbrev dktX5_size_0 : List UInt8 := dkwX5_size_0 ++ []
theorem dksX5_size_0 : cX5_size.data.toList.drop 0 = dktX5_size_0 := by decide +kernel
theorem dX5_size_0 : decode cX5_size 0 = .ok (.fload_n 0, 1) := dk_34 (dk_at dksX5_size_0 0 rfl rfl)
theorem dX5_size_1 : decode cX5_size 1 = .ok (.fconst 0, 1) := dk_11 (dk_at dksX5_size_0 1 rfl rfl)
theorem dX5_size_2 : decode cX5_size 2 = .ok (.fcmp .g, 1) := dk_150 (dk_at dksX5_size_0 2 rfl rfl)
theorem dX5_size_3 : decode cX5_size 3 = .ok (.ifCond .ge 8, 3) := dk_156 0 8 (dk_at dksX5_size_0 3 rfl rfl)
theorem dX5_size_6 : decode cX5_size 6 = .ok (.fload_n 0, 1) := dk_34 (dk_at dksX5_size_0 6 rfl rfl)
theorem dX5_size_7 : decode cX5_size 7 = .ok (.fneg, 1) := dk_118 (dk_at dksX5_size_0 7 rfl rfl)
theorem dX5_size_8 : decode cX5_size 8 = .ok (.goto 4, 3) := dk_167 0 4 (dk_at dksX5_size_0 8 rfl rfl)
theorem dX5_size_11 : decode cX5_size 11 = .ok (.fload_n 0, 1) := dk_34 (dk_at dksX5_size_0 11 rfl rfl)
theorem dX5_size_12 : decode cX5_size 12 = .ok (.freturn, 1) := dk_174 (dk_at dksX5_size_0 12 rfl rfl)
abbrev cX5_gap : ByteArray := prog_11_method_28_code
def yX5_gap : MethodName := ⟨RX5, "gap", "(II)I"⟩
def dkwX5_gap_1 : List UInt8 := [28, 100, 167, 0, 6, 28, 29, 100, 172]
abbrev dktX5_gap_1 : List UInt8 := dkwX5_gap_1 ++ []
def dkwX5_gap_0 : List UInt8 := [42, 180, 0, 7, 6, 27, 96, 46, 62, 29, 156, 0, 8, 16, 251, 167, 0, 17, 28, 29, 162, 0, 9, 29]
abbrev dktX5_gap_0 : List UInt8 := dkwX5_gap_0 ++ dktX5_gap_1
theorem dksX5_gap_0 : cX5_gap.data.toList.drop 0 = dktX5_gap_0 := by decide +kernel
theorem dksX5_gap_1 : cX5_gap.data.toList.drop 24 = dktX5_gap_1 := dk_seg dksX5_gap_0 24 rfl rfl
theorem dX5_gap_0 : decode cX5_gap 0 = .ok (.aload_n 0, 1) := dk_42 (dk_at dksX5_gap_0 0 rfl rfl)
theorem dX5_gap_1 : decode cX5_gap 1 = .ok (.getfield 7, 3) := dk_180 0 7 (dk_at dksX5_gap_0 1 rfl rfl)
theorem dX5_gap_4 : decode cX5_gap 4 = .ok (.iconst 3, 1) := dk_6 (dk_at dksX5_gap_0 4 rfl rfl)
theorem dX5_gap_5 : decode cX5_gap 5 = .ok (.iload_n 1, 1) := dk_27 (dk_at dksX5_gap_0 5 rfl rfl)
theorem dX5_gap_6 : decode cX5_gap 6 = .ok (.iadd, 1) := dk_96 (dk_at dksX5_gap_0 6 rfl rfl)
theorem dX5_gap_7 : decode cX5_gap 7 = .ok (.iaload, 1) := dk_46 (dk_at dksX5_gap_0 7 rfl rfl)
theorem dX5_gap_8 : decode cX5_gap 8 = .ok (.istore_n 3, 1) := dk_62 (dk_at dksX5_gap_0 8 rfl rfl)
theorem dX5_gap_9 : decode cX5_gap 9 = .ok (.iload_n 3, 1) := dk_29 (dk_at dksX5_gap_0 9 rfl rfl)
theorem dX5_gap_10 : decode cX5_gap 10 = .ok (.ifCond .ge 8, 3) := dk_156 0 8 (dk_at dksX5_gap_0 10 rfl rfl)
theorem dX5_gap_13 : decode cX5_gap 13 = .ok (.bipush (-5), 2) := dk_16 251 (dk_at dksX5_gap_0 13 rfl rfl)
theorem dX5_gap_15 : decode cX5_gap 15 = .ok (.goto 17, 3) := dk_167 0 17 (dk_at dksX5_gap_0 15 rfl rfl)
theorem dX5_gap_18 : decode cX5_gap 18 = .ok (.iload_n 2, 1) := dk_28 (dk_at dksX5_gap_0 18 rfl rfl)
theorem dX5_gap_19 : decode cX5_gap 19 = .ok (.iload_n 3, 1) := dk_29 (dk_at dksX5_gap_0 19 rfl rfl)
theorem dX5_gap_20 : decode cX5_gap 20 = .ok (.if_icmp .ge 9, 3) := dk_162 0 9 (dk_at dksX5_gap_0 20 rfl rfl)
theorem dX5_gap_23 : decode cX5_gap 23 = .ok (.iload_n 3, 1) := dk_29 (dk_at dksX5_gap_0 23 rfl rfl)
theorem dX5_gap_24 : decode cX5_gap 24 = .ok (.iload_n 2, 1) := dk_28 (dk_at dksX5_gap_1 0 rfl rfl)
theorem dX5_gap_25 : decode cX5_gap 25 = .ok (.isub, 1) := dk_100 (dk_at dksX5_gap_1 1 rfl rfl)
theorem dX5_gap_26 : decode cX5_gap 26 = .ok (.goto 6, 3) := dk_167 0 6 (dk_at dksX5_gap_1 2 rfl rfl)
theorem dX5_gap_29 : decode cX5_gap 29 = .ok (.iload_n 2, 1) := dk_28 (dk_at dksX5_gap_1 5 rfl rfl)
theorem dX5_gap_30 : decode cX5_gap 30 = .ok (.iload_n 3, 1) := dk_29 (dk_at dksX5_gap_1 6 rfl rfl)
theorem dX5_gap_31 : decode cX5_gap 31 = .ok (.isub, 1) := dk_100 (dk_at dksX5_gap_1 7 rfl rfl)
theorem dX5_gap_32 : decode cX5_gap 32 = .ok (.ireturn, 1) := dk_172 (dk_at dksX5_gap_1 8 rfl rfl)
abbrev cX5_countIt : ByteArray := prog_11_method_34_code
def yX5_countIt : MethodName := ⟨RX5, "countIt", "(II)V"⟩
def dkwX5_countIt_3 : List UInt8 := [167, 0, 4, 3, 96, 79, 177]
abbrev dktX5_countIt_3 : List UInt8 := dkwX5_countIt_3 ++ []
def dkwX5_countIt_2 : List UInt8 := [42, 180, 0, 7, 16, 14, 92, 46, 4, 96, 79, 42, 180, 0, 7, 16, 15, 92, 46, 28, 156, 0, 7, 4]
abbrev dktX5_countIt_2 : List UInt8 := dkwX5_countIt_2 ++ dktX5_countIt_3
def dkwX5_countIt_1 : List UInt8 := [27, 96, 92, 46, 28, 27, 160, 0, 7, 4, 167, 0, 4, 3, 96, 79, 167, 0, 38, 27, 5, 160, 0, 33]
abbrev dktX5_countIt_1 : List UInt8 := dkwX5_countIt_1 ++ dktX5_countIt_2
def dkwX5_countIt_0 : List UInt8 := [27, 5, 162, 0, 41, 42, 180, 0, 7, 16, 10, 27, 96, 92, 46, 4, 96, 79, 42, 180, 0, 7, 16, 12]
abbrev dktX5_countIt_0 : List UInt8 := dkwX5_countIt_0 ++ dktX5_countIt_1
theorem dksX5_countIt_0 : cX5_countIt.data.toList.drop 0 = dktX5_countIt_0 := by decide +kernel
theorem dksX5_countIt_1 : cX5_countIt.data.toList.drop 24 = dktX5_countIt_1 := dk_seg dksX5_countIt_0 24 rfl rfl
theorem dksX5_countIt_2 : cX5_countIt.data.toList.drop 48 = dktX5_countIt_2 := dk_seg dksX5_countIt_1 24 rfl rfl
theorem dksX5_countIt_3 : cX5_countIt.data.toList.drop 72 = dktX5_countIt_3 := dk_seg dksX5_countIt_2 24 rfl rfl
theorem dX5_countIt_0 : decode cX5_countIt 0 = .ok (.iload_n 1, 1) := dk_27 (dk_at dksX5_countIt_0 0 rfl rfl)
theorem dX5_countIt_1 : decode cX5_countIt 1 = .ok (.iconst 2, 1) := dk_5 (dk_at dksX5_countIt_0 1 rfl rfl)
theorem dX5_countIt_2 : decode cX5_countIt 2 = .ok (.if_icmp .ge 41, 3) := dk_162 0 41 (dk_at dksX5_countIt_0 2 rfl rfl)
theorem dX5_countIt_5 : decode cX5_countIt 5 = .ok (.aload_n 0, 1) := dk_42 (dk_at dksX5_countIt_0 5 rfl rfl)
theorem dX5_countIt_6 : decode cX5_countIt 6 = .ok (.getfield 7, 3) := dk_180 0 7 (dk_at dksX5_countIt_0 6 rfl rfl)
theorem dX5_countIt_9 : decode cX5_countIt 9 = .ok (.bipush 10, 2) := dk_16 10 (dk_at dksX5_countIt_0 9 rfl rfl)
theorem dX5_countIt_11 : decode cX5_countIt 11 = .ok (.iload_n 1, 1) := dk_27 (dk_at dksX5_countIt_0 11 rfl rfl)
theorem dX5_countIt_12 : decode cX5_countIt 12 = .ok (.iadd, 1) := dk_96 (dk_at dksX5_countIt_0 12 rfl rfl)
theorem dX5_countIt_13 : decode cX5_countIt 13 = .ok (.dup2, 1) := dk_92 (dk_at dksX5_countIt_0 13 rfl rfl)
theorem dX5_countIt_14 : decode cX5_countIt 14 = .ok (.iaload, 1) := dk_46 (dk_at dksX5_countIt_0 14 rfl rfl)
theorem dX5_countIt_15 : decode cX5_countIt 15 = .ok (.iconst 1, 1) := dk_4 (dk_at dksX5_countIt_0 15 rfl rfl)
theorem dX5_countIt_16 : decode cX5_countIt 16 = .ok (.iadd, 1) := dk_96 (dk_at dksX5_countIt_0 16 rfl rfl)
theorem dX5_countIt_17 : decode cX5_countIt 17 = .ok (.iastore, 1) := dk_79 (dk_at dksX5_countIt_0 17 rfl rfl)
theorem dX5_countIt_18 : decode cX5_countIt 18 = .ok (.aload_n 0, 1) := dk_42 (dk_at dksX5_countIt_0 18 rfl rfl)
theorem dX5_countIt_19 : decode cX5_countIt 19 = .ok (.getfield 7, 3) := dk_180 0 7 (dk_at dksX5_countIt_0 19 rfl rfl)
theorem dX5_countIt_22 : decode cX5_countIt 22 = .ok (.bipush 12, 2) := dk_16 12 (dk_at dksX5_countIt_0 22 rfl rfl)
theorem dX5_countIt_24 : decode cX5_countIt 24 = .ok (.iload_n 1, 1) := dk_27 (dk_at dksX5_countIt_1 0 rfl rfl)
theorem dX5_countIt_25 : decode cX5_countIt 25 = .ok (.iadd, 1) := dk_96 (dk_at dksX5_countIt_1 1 rfl rfl)
theorem dX5_countIt_26 : decode cX5_countIt 26 = .ok (.dup2, 1) := dk_92 (dk_at dksX5_countIt_1 2 rfl rfl)
theorem dX5_countIt_27 : decode cX5_countIt 27 = .ok (.iaload, 1) := dk_46 (dk_at dksX5_countIt_1 3 rfl rfl)
theorem dX5_countIt_28 : decode cX5_countIt 28 = .ok (.iload_n 2, 1) := dk_28 (dk_at dksX5_countIt_1 4 rfl rfl)
theorem dX5_countIt_29 : decode cX5_countIt 29 = .ok (.iload_n 1, 1) := dk_27 (dk_at dksX5_countIt_1 5 rfl rfl)
theorem dX5_countIt_30 : decode cX5_countIt 30 = .ok (.if_icmp .ne 7, 3) := dk_160 0 7 (dk_at dksX5_countIt_1 6 rfl rfl)
theorem dX5_countIt_33 : decode cX5_countIt 33 = .ok (.iconst 1, 1) := dk_4 (dk_at dksX5_countIt_1 9 rfl rfl)
theorem dX5_countIt_34 : decode cX5_countIt 34 = .ok (.goto 4, 3) := dk_167 0 4 (dk_at dksX5_countIt_1 10 rfl rfl)
theorem dX5_countIt_37 : decode cX5_countIt 37 = .ok (.iconst 0, 1) := dk_3 (dk_at dksX5_countIt_1 13 rfl rfl)
theorem dX5_countIt_38 : decode cX5_countIt 38 = .ok (.iadd, 1) := dk_96 (dk_at dksX5_countIt_1 14 rfl rfl)
theorem dX5_countIt_39 : decode cX5_countIt 39 = .ok (.iastore, 1) := dk_79 (dk_at dksX5_countIt_1 15 rfl rfl)
theorem dX5_countIt_40 : decode cX5_countIt 40 = .ok (.goto 38, 3) := dk_167 0 38 (dk_at dksX5_countIt_1 16 rfl rfl)
theorem dX5_countIt_43 : decode cX5_countIt 43 = .ok (.iload_n 1, 1) := dk_27 (dk_at dksX5_countIt_1 19 rfl rfl)
theorem dX5_countIt_44 : decode cX5_countIt 44 = .ok (.iconst 2, 1) := dk_5 (dk_at dksX5_countIt_1 20 rfl rfl)
theorem dX5_countIt_45 : decode cX5_countIt 45 = .ok (.if_icmp .ne 33, 3) := dk_160 0 33 (dk_at dksX5_countIt_1 21 rfl rfl)
theorem dX5_countIt_48 : decode cX5_countIt 48 = .ok (.aload_n 0, 1) := dk_42 (dk_at dksX5_countIt_2 0 rfl rfl)
theorem dX5_countIt_49 : decode cX5_countIt 49 = .ok (.getfield 7, 3) := dk_180 0 7 (dk_at dksX5_countIt_2 1 rfl rfl)
theorem dX5_countIt_52 : decode cX5_countIt 52 = .ok (.bipush 14, 2) := dk_16 14 (dk_at dksX5_countIt_2 4 rfl rfl)
theorem dX5_countIt_54 : decode cX5_countIt 54 = .ok (.dup2, 1) := dk_92 (dk_at dksX5_countIt_2 6 rfl rfl)
theorem dX5_countIt_55 : decode cX5_countIt 55 = .ok (.iaload, 1) := dk_46 (dk_at dksX5_countIt_2 7 rfl rfl)
theorem dX5_countIt_56 : decode cX5_countIt 56 = .ok (.iconst 1, 1) := dk_4 (dk_at dksX5_countIt_2 8 rfl rfl)
theorem dX5_countIt_57 : decode cX5_countIt 57 = .ok (.iadd, 1) := dk_96 (dk_at dksX5_countIt_2 9 rfl rfl)
theorem dX5_countIt_58 : decode cX5_countIt 58 = .ok (.iastore, 1) := dk_79 (dk_at dksX5_countIt_2 10 rfl rfl)
theorem dX5_countIt_59 : decode cX5_countIt 59 = .ok (.aload_n 0, 1) := dk_42 (dk_at dksX5_countIt_2 11 rfl rfl)
theorem dX5_countIt_60 : decode cX5_countIt 60 = .ok (.getfield 7, 3) := dk_180 0 7 (dk_at dksX5_countIt_2 12 rfl rfl)
theorem dX5_countIt_63 : decode cX5_countIt 63 = .ok (.bipush 15, 2) := dk_16 15 (dk_at dksX5_countIt_2 15 rfl rfl)
theorem dX5_countIt_65 : decode cX5_countIt 65 = .ok (.dup2, 1) := dk_92 (dk_at dksX5_countIt_2 17 rfl rfl)
theorem dX5_countIt_66 : decode cX5_countIt 66 = .ok (.iaload, 1) := dk_46 (dk_at dksX5_countIt_2 18 rfl rfl)
theorem dX5_countIt_67 : decode cX5_countIt 67 = .ok (.iload_n 2, 1) := dk_28 (dk_at dksX5_countIt_2 19 rfl rfl)
theorem dX5_countIt_68 : decode cX5_countIt 68 = .ok (.ifCond .ge 7, 3) := dk_156 0 7 (dk_at dksX5_countIt_2 20 rfl rfl)
theorem dX5_countIt_71 : decode cX5_countIt 71 = .ok (.iconst 1, 1) := dk_4 (dk_at dksX5_countIt_2 23 rfl rfl)
theorem dX5_countIt_72 : decode cX5_countIt 72 = .ok (.goto 4, 3) := dk_167 0 4 (dk_at dksX5_countIt_3 0 rfl rfl)
theorem dX5_countIt_75 : decode cX5_countIt 75 = .ok (.iconst 0, 1) := dk_3 (dk_at dksX5_countIt_3 3 rfl rfl)
theorem dX5_countIt_76 : decode cX5_countIt 76 = .ok (.iadd, 1) := dk_96 (dk_at dksX5_countIt_3 4 rfl rfl)
theorem dX5_countIt_77 : decode cX5_countIt 77 = .ok (.iastore, 1) := dk_79 (dk_at dksX5_countIt_3 5 rfl rfl)
theorem dX5_countIt_78 : decode cX5_countIt 78 = .ok (.return_, 1) := dk_177 (dk_at dksX5_countIt_3 6 rfl rfl)
abbrev cX5_learn : ByteArray := prog_11_method_31_code
def yX5_learn : MethodName := ⟨RX5, "learn", "(III)V"⟩
def dkwX5_learn_2 : List UInt8 := [96, 48, 21, 4, 182, 0, 128, 81, 42, 180, 0, 7, 6, 27, 96, 28, 79, 177]
abbrev dktX5_learn_2 : List UInt8 := dkwX5_learn_2 ++ []
def dkwX5_learn_1 : List UInt8 := [29, 182, 0, 128, 81, 21, 4, 155, 0, 25, 42, 180, 0, 22, 5, 27, 96, 42, 42, 180, 0, 22, 5, 27]
abbrev dktX5_learn_1 : List UInt8 := dkwX5_learn_1 ++ dktX5_learn_2
def dkwX5_learn_0 : List UInt8 := [42, 27, 28, 182, 0, 124, 54, 4, 42, 180, 0, 22, 3, 27, 96, 42, 42, 180, 0, 22, 3, 27, 96, 48]
abbrev dktX5_learn_0 : List UInt8 := dkwX5_learn_0 ++ dktX5_learn_1
theorem dksX5_learn_0 : cX5_learn.data.toList.drop 0 = dktX5_learn_0 := by decide +kernel
theorem dksX5_learn_1 : cX5_learn.data.toList.drop 24 = dktX5_learn_1 := dk_seg dksX5_learn_0 24 rfl rfl
theorem dksX5_learn_2 : cX5_learn.data.toList.drop 48 = dktX5_learn_2 := dk_seg dksX5_learn_1 24 rfl rfl
theorem dX5_learn_0 : decode cX5_learn 0 = .ok (.aload_n 0, 1) := dk_42 (dk_at dksX5_learn_0 0 rfl rfl)
theorem dX5_learn_1 : decode cX5_learn 1 = .ok (.iload_n 1, 1) := dk_27 (dk_at dksX5_learn_0 1 rfl rfl)
theorem dX5_learn_2 : decode cX5_learn 2 = .ok (.iload_n 2, 1) := dk_28 (dk_at dksX5_learn_0 2 rfl rfl)
theorem dX5_learn_3 : decode cX5_learn 3 = .ok (.invokevirtual 124, 3) := dk_182 0 124 (dk_at dksX5_learn_0 3 rfl rfl)
theorem dX5_learn_6 : decode cX5_learn 6 = .ok (.istore 4, 2) := dk_54 4 (dk_at dksX5_learn_0 6 rfl rfl)
theorem dX5_learn_8 : decode cX5_learn 8 = .ok (.aload_n 0, 1) := dk_42 (dk_at dksX5_learn_0 8 rfl rfl)
theorem dX5_learn_9 : decode cX5_learn 9 = .ok (.getfield 22, 3) := dk_180 0 22 (dk_at dksX5_learn_0 9 rfl rfl)
theorem dX5_learn_12 : decode cX5_learn 12 = .ok (.iconst 0, 1) := dk_3 (dk_at dksX5_learn_0 12 rfl rfl)
theorem dX5_learn_13 : decode cX5_learn 13 = .ok (.iload_n 1, 1) := dk_27 (dk_at dksX5_learn_0 13 rfl rfl)
theorem dX5_learn_14 : decode cX5_learn 14 = .ok (.iadd, 1) := dk_96 (dk_at dksX5_learn_0 14 rfl rfl)
theorem dX5_learn_15 : decode cX5_learn 15 = .ok (.aload_n 0, 1) := dk_42 (dk_at dksX5_learn_0 15 rfl rfl)
theorem dX5_learn_16 : decode cX5_learn 16 = .ok (.aload_n 0, 1) := dk_42 (dk_at dksX5_learn_0 16 rfl rfl)
theorem dX5_learn_17 : decode cX5_learn 17 = .ok (.getfield 22, 3) := dk_180 0 22 (dk_at dksX5_learn_0 17 rfl rfl)
theorem dX5_learn_20 : decode cX5_learn 20 = .ok (.iconst 0, 1) := dk_3 (dk_at dksX5_learn_0 20 rfl rfl)
theorem dX5_learn_21 : decode cX5_learn 21 = .ok (.iload_n 1, 1) := dk_27 (dk_at dksX5_learn_0 21 rfl rfl)
theorem dX5_learn_22 : decode cX5_learn 22 = .ok (.iadd, 1) := dk_96 (dk_at dksX5_learn_0 22 rfl rfl)
theorem dX5_learn_23 : decode cX5_learn 23 = .ok (.faload, 1) := dk_48 (dk_at dksX5_learn_0 23 rfl rfl)
theorem dX5_learn_24 : decode cX5_learn 24 = .ok (.iload_n 3, 1) := dk_29 (dk_at dksX5_learn_1 0 rfl rfl)
theorem dX5_learn_25 : decode cX5_learn 25 = .ok (.invokevirtual 128, 3) := dk_182 0 128 (dk_at dksX5_learn_1 1 rfl rfl)
theorem dX5_learn_28 : decode cX5_learn 28 = .ok (.fastore, 1) := dk_81 (dk_at dksX5_learn_1 4 rfl rfl)
theorem dX5_learn_29 : decode cX5_learn 29 = .ok (.iload 4, 2) := dk_21 4 (dk_at dksX5_learn_1 5 rfl rfl)
theorem dX5_learn_31 : decode cX5_learn 31 = .ok (.ifCond .lt 25, 3) := dk_155 0 25 (dk_at dksX5_learn_1 7 rfl rfl)
theorem dX5_learn_34 : decode cX5_learn 34 = .ok (.aload_n 0, 1) := dk_42 (dk_at dksX5_learn_1 10 rfl rfl)
theorem dX5_learn_35 : decode cX5_learn 35 = .ok (.getfield 22, 3) := dk_180 0 22 (dk_at dksX5_learn_1 11 rfl rfl)
theorem dX5_learn_38 : decode cX5_learn 38 = .ok (.iconst 2, 1) := dk_5 (dk_at dksX5_learn_1 14 rfl rfl)
theorem dX5_learn_39 : decode cX5_learn 39 = .ok (.iload_n 1, 1) := dk_27 (dk_at dksX5_learn_1 15 rfl rfl)
theorem dX5_learn_40 : decode cX5_learn 40 = .ok (.iadd, 1) := dk_96 (dk_at dksX5_learn_1 16 rfl rfl)
theorem dX5_learn_41 : decode cX5_learn 41 = .ok (.aload_n 0, 1) := dk_42 (dk_at dksX5_learn_1 17 rfl rfl)
theorem dX5_learn_42 : decode cX5_learn 42 = .ok (.aload_n 0, 1) := dk_42 (dk_at dksX5_learn_1 18 rfl rfl)
theorem dX5_learn_43 : decode cX5_learn 43 = .ok (.getfield 22, 3) := dk_180 0 22 (dk_at dksX5_learn_1 19 rfl rfl)
theorem dX5_learn_46 : decode cX5_learn 46 = .ok (.iconst 2, 1) := dk_5 (dk_at dksX5_learn_1 22 rfl rfl)
theorem dX5_learn_47 : decode cX5_learn 47 = .ok (.iload_n 1, 1) := dk_27 (dk_at dksX5_learn_1 23 rfl rfl)
theorem dX5_learn_48 : decode cX5_learn 48 = .ok (.iadd, 1) := dk_96 (dk_at dksX5_learn_2 0 rfl rfl)
theorem dX5_learn_49 : decode cX5_learn 49 = .ok (.faload, 1) := dk_48 (dk_at dksX5_learn_2 1 rfl rfl)
theorem dX5_learn_50 : decode cX5_learn 50 = .ok (.iload 4, 2) := dk_21 4 (dk_at dksX5_learn_2 2 rfl rfl)
theorem dX5_learn_52 : decode cX5_learn 52 = .ok (.invokevirtual 128, 3) := dk_182 0 128 (dk_at dksX5_learn_2 4 rfl rfl)
theorem dX5_learn_55 : decode cX5_learn 55 = .ok (.fastore, 1) := dk_81 (dk_at dksX5_learn_2 7 rfl rfl)
theorem dX5_learn_56 : decode cX5_learn 56 = .ok (.aload_n 0, 1) := dk_42 (dk_at dksX5_learn_2 8 rfl rfl)
theorem dX5_learn_57 : decode cX5_learn 57 = .ok (.getfield 7, 3) := dk_180 0 7 (dk_at dksX5_learn_2 9 rfl rfl)
theorem dX5_learn_60 : decode cX5_learn 60 = .ok (.iconst 3, 1) := dk_6 (dk_at dksX5_learn_2 12 rfl rfl)
theorem dX5_learn_61 : decode cX5_learn 61 = .ok (.iload_n 1, 1) := dk_27 (dk_at dksX5_learn_2 13 rfl rfl)
theorem dX5_learn_62 : decode cX5_learn 62 = .ok (.iadd, 1) := dk_96 (dk_at dksX5_learn_2 14 rfl rfl)
theorem dX5_learn_63 : decode cX5_learn 63 = .ok (.iload_n 2, 1) := dk_28 (dk_at dksX5_learn_2 15 rfl rfl)
theorem dX5_learn_64 : decode cX5_learn 64 = .ok (.iastore, 1) := dk_79 (dk_at dksX5_learn_2 16 rfl rfl)
theorem dX5_learn_65 : decode cX5_learn 65 = .ok (.return_, 1) := dk_177 (dk_at dksX5_learn_2 17 rfl rfl)
abbrev cX5_learned : ByteArray := prog_11_method_30_code
def yX5_learned : MethodName := ⟨RX5, "learned", "(FI)F"⟩
def dkwX5_learned_1 : List UInt8 := [167, 0, 4, 37, 174]
abbrev dktX5_learned_1 : List UInt8 := dkwX5_learned_1 ++ []
def dkwX5_learned_0 : List UInt8 := [35, 28, 134, 35, 102, 42, 180, 0, 22, 16, 6, 48, 106, 98, 70, 37, 18, 42, 150, 156, 0, 8, 18, 42]
abbrev dktX5_learned_0 : List UInt8 := dkwX5_learned_0 ++ dktX5_learned_1
theorem dksX5_learned_0 : cX5_learned.data.toList.drop 0 = dktX5_learned_0 := by decide +kernel
theorem dksX5_learned_1 : cX5_learned.data.toList.drop 24 = dktX5_learned_1 := dk_seg dksX5_learned_0 24 rfl rfl
theorem dX5_learned_0 : decode cX5_learned 0 = .ok (.fload_n 1, 1) := dk_35 (dk_at dksX5_learned_0 0 rfl rfl)
theorem dX5_learned_1 : decode cX5_learned 1 = .ok (.iload_n 2, 1) := dk_28 (dk_at dksX5_learned_0 1 rfl rfl)
theorem dX5_learned_2 : decode cX5_learned 2 = .ok (.i2f, 1) := dk_134 (dk_at dksX5_learned_0 2 rfl rfl)
theorem dX5_learned_3 : decode cX5_learned 3 = .ok (.fload_n 1, 1) := dk_35 (dk_at dksX5_learned_0 3 rfl rfl)
theorem dX5_learned_4 : decode cX5_learned 4 = .ok (.fsub, 1) := dk_102 (dk_at dksX5_learned_0 4 rfl rfl)
theorem dX5_learned_5 : decode cX5_learned 5 = .ok (.aload_n 0, 1) := dk_42 (dk_at dksX5_learned_0 5 rfl rfl)
theorem dX5_learned_6 : decode cX5_learned 6 = .ok (.getfield 22, 3) := dk_180 0 22 (dk_at dksX5_learned_0 6 rfl rfl)
theorem dX5_learned_9 : decode cX5_learned 9 = .ok (.bipush 6, 2) := dk_16 6 (dk_at dksX5_learned_0 9 rfl rfl)
theorem dX5_learned_11 : decode cX5_learned 11 = .ok (.faload, 1) := dk_48 (dk_at dksX5_learned_0 11 rfl rfl)
theorem dX5_learned_12 : decode cX5_learned 12 = .ok (.fmul, 1) := dk_106 (dk_at dksX5_learned_0 12 rfl rfl)
theorem dX5_learned_13 : decode cX5_learned 13 = .ok (.fadd, 1) := dk_98 (dk_at dksX5_learned_0 13 rfl rfl)
theorem dX5_learned_14 : decode cX5_learned 14 = .ok (.fstore_n 3, 1) := dk_70 (dk_at dksX5_learned_0 14 rfl rfl)
theorem dX5_learned_15 : decode cX5_learned 15 = .ok (.fload_n 3, 1) := dk_37 (dk_at dksX5_learned_0 15 rfl rfl)
theorem dX5_learned_16 : decode cX5_learned 16 = .ok (.ldc 42, 2) := dk_18 42 (dk_at dksX5_learned_0 16 rfl rfl)
theorem dX5_learned_18 : decode cX5_learned 18 = .ok (.fcmp .g, 1) := dk_150 (dk_at dksX5_learned_0 18 rfl rfl)
theorem dX5_learned_19 : decode cX5_learned 19 = .ok (.ifCond .ge 8, 3) := dk_156 0 8 (dk_at dksX5_learned_0 19 rfl rfl)
theorem dX5_learned_22 : decode cX5_learned 22 = .ok (.ldc 42, 2) := dk_18 42 (dk_at dksX5_learned_0 22 rfl rfl)
theorem dX5_learned_24 : decode cX5_learned 24 = .ok (.goto 4, 3) := dk_167 0 4 (dk_at dksX5_learned_1 0 rfl rfl)
theorem dX5_learned_27 : decode cX5_learned 27 = .ok (.fload_n 3, 1) := dk_37 (dk_at dksX5_learned_1 3 rfl rfl)
theorem dX5_learned_28 : decode cX5_learned 28 = .ok (.freturn, 1) := dk_174 (dk_at dksX5_learned_1 4 rfl rfl)
abbrev cX5_giveSign : ByteArray := prog_11_method_33_code
def yX5_giveSign : MethodName := ⟨RX5, "giveSign", "(III)V"⟩
def dkwX5_giveSign_5 : List UInt8 := [16, 17, 27, 96, 92, 46, 4, 96, 79, 177]
abbrev dktX5_giveSign_5 : List UInt8 := dkwX5_giveSign_5 ++ []
def dkwX5_giveSign_4 : List UInt8 := [17, 1, 4, 28, 96, 46, 21, 4, 153, 0, 8, 16, 32, 167, 0, 4, 3, 100, 79, 42, 180, 0, 7]
abbrev dktX5_giveSign_4 : List UInt8 := dkwX5_giveSign_4 ++ dktX5_giveSign_5
def dkwX5_giveSign_3 : List UInt8 := [16, 24, 27, 104, 96, 42, 180, 0, 7, 16, 17, 27, 96, 46, 16, 24, 112, 96, 42, 180, 0, 7]
abbrev dktX5_giveSign_3 : List UInt8 := dkwX5_giveSign_3 ++ dktX5_giveSign_4
def dkwX5_giveSign_2 : List UInt8 := [27, 100, 122, 4, 126, 4, 160, 0, 7, 4, 167, 0, 4, 3, 54, 4, 42, 180, 0, 7, 17, 2, 32]
abbrev dktX5_giveSign_2 : List UInt8 := dkwX5_giveSign_2 ++ dktX5_giveSign_3
def dkwX5_giveSign_1 : List UInt8 := [29, 27, 122, 4, 126, 4, 159, 0, 27, 42, 180, 0, 7, 16, 7, 27, 96, 46, 4, 160, 0, 18, 29, 4]
abbrev dktX5_giveSign_1 : List UInt8 := dkwX5_giveSign_1 ++ dktX5_giveSign_2
def dkwX5_giveSign_0 : List UInt8 := [42, 28, 182, 0, 79, 154, 0, 18, 42, 180, 0, 7, 17, 1, 4, 28, 96, 46, 16, 46, 160, 0, 4, 177]
abbrev dktX5_giveSign_0 : List UInt8 := dkwX5_giveSign_0 ++ dktX5_giveSign_1
theorem dksX5_giveSign_0 : cX5_giveSign.data.toList.drop 0 = dktX5_giveSign_0 := by decide +kernel
theorem dksX5_giveSign_1 : cX5_giveSign.data.toList.drop 24 = dktX5_giveSign_1 := dk_seg dksX5_giveSign_0 24 rfl rfl
theorem dksX5_giveSign_2 : cX5_giveSign.data.toList.drop 48 = dktX5_giveSign_2 := dk_seg dksX5_giveSign_1 24 rfl rfl
theorem dksX5_giveSign_3 : cX5_giveSign.data.toList.drop 71 = dktX5_giveSign_3 := dk_seg dksX5_giveSign_2 23 rfl rfl
theorem dksX5_giveSign_4 : cX5_giveSign.data.toList.drop 93 = dktX5_giveSign_4 := dk_seg dksX5_giveSign_3 22 rfl rfl
theorem dksX5_giveSign_5 : cX5_giveSign.data.toList.drop 116 = dktX5_giveSign_5 := dk_seg dksX5_giveSign_4 23 rfl rfl
theorem dX5_giveSign_0 : decode cX5_giveSign 0 = .ok (.aload_n 0, 1) := dk_42 (dk_at dksX5_giveSign_0 0 rfl rfl)
theorem dX5_giveSign_1 : decode cX5_giveSign 1 = .ok (.iload_n 2, 1) := dk_28 (dk_at dksX5_giveSign_0 1 rfl rfl)
theorem dX5_giveSign_2 : decode cX5_giveSign 2 = .ok (.invokevirtual 79, 3) := dk_182 0 79 (dk_at dksX5_giveSign_0 2 rfl rfl)
theorem dX5_giveSign_5 : decode cX5_giveSign 5 = .ok (.ifCond .ne 18, 3) := dk_154 0 18 (dk_at dksX5_giveSign_0 5 rfl rfl)
theorem dX5_giveSign_8 : decode cX5_giveSign 8 = .ok (.aload_n 0, 1) := dk_42 (dk_at dksX5_giveSign_0 8 rfl rfl)
theorem dX5_giveSign_9 : decode cX5_giveSign 9 = .ok (.getfield 7, 3) := dk_180 0 7 (dk_at dksX5_giveSign_0 9 rfl rfl)
theorem dX5_giveSign_12 : decode cX5_giveSign 12 = .ok (.sipush 260, 3) := dk_17 1 4 (dk_at dksX5_giveSign_0 12 rfl rfl)
theorem dX5_giveSign_15 : decode cX5_giveSign 15 = .ok (.iload_n 2, 1) := dk_28 (dk_at dksX5_giveSign_0 15 rfl rfl)
theorem dX5_giveSign_16 : decode cX5_giveSign 16 = .ok (.iadd, 1) := dk_96 (dk_at dksX5_giveSign_0 16 rfl rfl)
theorem dX5_giveSign_17 : decode cX5_giveSign 17 = .ok (.iaload, 1) := dk_46 (dk_at dksX5_giveSign_0 17 rfl rfl)
theorem dX5_giveSign_18 : decode cX5_giveSign 18 = .ok (.bipush 46, 2) := dk_16 46 (dk_at dksX5_giveSign_0 18 rfl rfl)
theorem dX5_giveSign_20 : decode cX5_giveSign 20 = .ok (.if_icmp .ne 4, 3) := dk_160 0 4 (dk_at dksX5_giveSign_0 20 rfl rfl)
theorem dX5_giveSign_23 : decode cX5_giveSign 23 = .ok (.return_, 1) := dk_177 (dk_at dksX5_giveSign_0 23 rfl rfl)
theorem dX5_giveSign_24 : decode cX5_giveSign 24 = .ok (.iload_n 3, 1) := dk_29 (dk_at dksX5_giveSign_1 0 rfl rfl)
theorem dX5_giveSign_25 : decode cX5_giveSign 25 = .ok (.iload_n 1, 1) := dk_27 (dk_at dksX5_giveSign_1 1 rfl rfl)
theorem dX5_giveSign_26 : decode cX5_giveSign 26 = .ok (.ishr, 1) := dk_122 (dk_at dksX5_giveSign_1 2 rfl rfl)
theorem dX5_giveSign_27 : decode cX5_giveSign 27 = .ok (.iconst 1, 1) := dk_4 (dk_at dksX5_giveSign_1 3 rfl rfl)
theorem dX5_giveSign_28 : decode cX5_giveSign 28 = .ok (.iand, 1) := dk_126 (dk_at dksX5_giveSign_1 4 rfl rfl)
theorem dX5_giveSign_29 : decode cX5_giveSign 29 = .ok (.iconst 1, 1) := dk_4 (dk_at dksX5_giveSign_1 5 rfl rfl)
theorem dX5_giveSign_30 : decode cX5_giveSign 30 = .ok (.if_icmp .eq 27, 3) := dk_159 0 27 (dk_at dksX5_giveSign_1 6 rfl rfl)
theorem dX5_giveSign_33 : decode cX5_giveSign 33 = .ok (.aload_n 0, 1) := dk_42 (dk_at dksX5_giveSign_1 9 rfl rfl)
theorem dX5_giveSign_34 : decode cX5_giveSign 34 = .ok (.getfield 7, 3) := dk_180 0 7 (dk_at dksX5_giveSign_1 10 rfl rfl)
theorem dX5_giveSign_37 : decode cX5_giveSign 37 = .ok (.bipush 7, 2) := dk_16 7 (dk_at dksX5_giveSign_1 13 rfl rfl)
theorem dX5_giveSign_39 : decode cX5_giveSign 39 = .ok (.iload_n 1, 1) := dk_27 (dk_at dksX5_giveSign_1 15 rfl rfl)
theorem dX5_giveSign_40 : decode cX5_giveSign 40 = .ok (.iadd, 1) := dk_96 (dk_at dksX5_giveSign_1 16 rfl rfl)
theorem dX5_giveSign_41 : decode cX5_giveSign 41 = .ok (.iaload, 1) := dk_46 (dk_at dksX5_giveSign_1 17 rfl rfl)
theorem dX5_giveSign_42 : decode cX5_giveSign 42 = .ok (.iconst 1, 1) := dk_4 (dk_at dksX5_giveSign_1 18 rfl rfl)
theorem dX5_giveSign_43 : decode cX5_giveSign 43 = .ok (.if_icmp .ne 18, 3) := dk_160 0 18 (dk_at dksX5_giveSign_1 19 rfl rfl)
theorem dX5_giveSign_46 : decode cX5_giveSign 46 = .ok (.iload_n 3, 1) := dk_29 (dk_at dksX5_giveSign_1 22 rfl rfl)
theorem dX5_giveSign_47 : decode cX5_giveSign 47 = .ok (.iconst 1, 1) := dk_4 (dk_at dksX5_giveSign_1 23 rfl rfl)
theorem dX5_giveSign_48 : decode cX5_giveSign 48 = .ok (.iload_n 1, 1) := dk_27 (dk_at dksX5_giveSign_2 0 rfl rfl)
theorem dX5_giveSign_49 : decode cX5_giveSign 49 = .ok (.isub, 1) := dk_100 (dk_at dksX5_giveSign_2 1 rfl rfl)
theorem dX5_giveSign_50 : decode cX5_giveSign 50 = .ok (.ishr, 1) := dk_122 (dk_at dksX5_giveSign_2 2 rfl rfl)
theorem dX5_giveSign_51 : decode cX5_giveSign 51 = .ok (.iconst 1, 1) := dk_4 (dk_at dksX5_giveSign_2 3 rfl rfl)
theorem dX5_giveSign_52 : decode cX5_giveSign 52 = .ok (.iand, 1) := dk_126 (dk_at dksX5_giveSign_2 4 rfl rfl)
theorem dX5_giveSign_53 : decode cX5_giveSign 53 = .ok (.iconst 1, 1) := dk_4 (dk_at dksX5_giveSign_2 5 rfl rfl)
theorem dX5_giveSign_54 : decode cX5_giveSign 54 = .ok (.if_icmp .ne 7, 3) := dk_160 0 7 (dk_at dksX5_giveSign_2 6 rfl rfl)
theorem dX5_giveSign_57 : decode cX5_giveSign 57 = .ok (.iconst 1, 1) := dk_4 (dk_at dksX5_giveSign_2 9 rfl rfl)
theorem dX5_giveSign_58 : decode cX5_giveSign 58 = .ok (.goto 4, 3) := dk_167 0 4 (dk_at dksX5_giveSign_2 10 rfl rfl)
theorem dX5_giveSign_61 : decode cX5_giveSign 61 = .ok (.iconst 0, 1) := dk_3 (dk_at dksX5_giveSign_2 13 rfl rfl)
theorem dX5_giveSign_62 : decode cX5_giveSign 62 = .ok (.istore 4, 2) := dk_54 4 (dk_at dksX5_giveSign_2 14 rfl rfl)
theorem dX5_giveSign_64 : decode cX5_giveSign 64 = .ok (.aload_n 0, 1) := dk_42 (dk_at dksX5_giveSign_2 16 rfl rfl)
theorem dX5_giveSign_65 : decode cX5_giveSign 65 = .ok (.getfield 7, 3) := dk_180 0 7 (dk_at dksX5_giveSign_2 17 rfl rfl)
theorem dX5_giveSign_68 : decode cX5_giveSign 68 = .ok (.sipush 544, 3) := dk_17 2 32 (dk_at dksX5_giveSign_2 20 rfl rfl)
theorem dX5_giveSign_71 : decode cX5_giveSign 71 = .ok (.bipush 24, 2) := dk_16 24 (dk_at dksX5_giveSign_3 0 rfl rfl)
theorem dX5_giveSign_73 : decode cX5_giveSign 73 = .ok (.iload_n 1, 1) := dk_27 (dk_at dksX5_giveSign_3 2 rfl rfl)
theorem dX5_giveSign_74 : decode cX5_giveSign 74 = .ok (.imul, 1) := dk_104 (dk_at dksX5_giveSign_3 3 rfl rfl)
theorem dX5_giveSign_75 : decode cX5_giveSign 75 = .ok (.iadd, 1) := dk_96 (dk_at dksX5_giveSign_3 4 rfl rfl)
theorem dX5_giveSign_76 : decode cX5_giveSign 76 = .ok (.aload_n 0, 1) := dk_42 (dk_at dksX5_giveSign_3 5 rfl rfl)
theorem dX5_giveSign_77 : decode cX5_giveSign 77 = .ok (.getfield 7, 3) := dk_180 0 7 (dk_at dksX5_giveSign_3 6 rfl rfl)
theorem dX5_giveSign_80 : decode cX5_giveSign 80 = .ok (.bipush 17, 2) := dk_16 17 (dk_at dksX5_giveSign_3 9 rfl rfl)
theorem dX5_giveSign_82 : decode cX5_giveSign 82 = .ok (.iload_n 1, 1) := dk_27 (dk_at dksX5_giveSign_3 11 rfl rfl)
theorem dX5_giveSign_83 : decode cX5_giveSign 83 = .ok (.iadd, 1) := dk_96 (dk_at dksX5_giveSign_3 12 rfl rfl)
theorem dX5_giveSign_84 : decode cX5_giveSign 84 = .ok (.iaload, 1) := dk_46 (dk_at dksX5_giveSign_3 13 rfl rfl)
theorem dX5_giveSign_85 : decode cX5_giveSign 85 = .ok (.bipush 24, 2) := dk_16 24 (dk_at dksX5_giveSign_3 14 rfl rfl)
theorem dX5_giveSign_87 : decode cX5_giveSign 87 = .ok (.irem, 1) := dk_112 (dk_at dksX5_giveSign_3 16 rfl rfl)
theorem dX5_giveSign_88 : decode cX5_giveSign 88 = .ok (.iadd, 1) := dk_96 (dk_at dksX5_giveSign_3 17 rfl rfl)
theorem dX5_giveSign_89 : decode cX5_giveSign 89 = .ok (.aload_n 0, 1) := dk_42 (dk_at dksX5_giveSign_3 18 rfl rfl)
theorem dX5_giveSign_90 : decode cX5_giveSign 90 = .ok (.getfield 7, 3) := dk_180 0 7 (dk_at dksX5_giveSign_3 19 rfl rfl)
theorem dX5_giveSign_93 : decode cX5_giveSign 93 = .ok (.sipush 260, 3) := dk_17 1 4 (dk_at dksX5_giveSign_4 0 rfl rfl)
theorem dX5_giveSign_96 : decode cX5_giveSign 96 = .ok (.iload_n 2, 1) := dk_28 (dk_at dksX5_giveSign_4 3 rfl rfl)
theorem dX5_giveSign_97 : decode cX5_giveSign 97 = .ok (.iadd, 1) := dk_96 (dk_at dksX5_giveSign_4 4 rfl rfl)
theorem dX5_giveSign_98 : decode cX5_giveSign 98 = .ok (.iaload, 1) := dk_46 (dk_at dksX5_giveSign_4 5 rfl rfl)
theorem dX5_giveSign_99 : decode cX5_giveSign 99 = .ok (.iload 4, 2) := dk_21 4 (dk_at dksX5_giveSign_4 6 rfl rfl)
theorem dX5_giveSign_101 : decode cX5_giveSign 101 = .ok (.ifCond .eq 8, 3) := dk_153 0 8 (dk_at dksX5_giveSign_4 8 rfl rfl)
theorem dX5_giveSign_104 : decode cX5_giveSign 104 = .ok (.bipush 32, 2) := dk_16 32 (dk_at dksX5_giveSign_4 11 rfl rfl)
theorem dX5_giveSign_106 : decode cX5_giveSign 106 = .ok (.goto 4, 3) := dk_167 0 4 (dk_at dksX5_giveSign_4 13 rfl rfl)
theorem dX5_giveSign_109 : decode cX5_giveSign 109 = .ok (.iconst 0, 1) := dk_3 (dk_at dksX5_giveSign_4 16 rfl rfl)
theorem dX5_giveSign_110 : decode cX5_giveSign 110 = .ok (.isub, 1) := dk_100 (dk_at dksX5_giveSign_4 17 rfl rfl)
theorem dX5_giveSign_111 : decode cX5_giveSign 111 = .ok (.iastore, 1) := dk_79 (dk_at dksX5_giveSign_4 18 rfl rfl)
theorem dX5_giveSign_112 : decode cX5_giveSign 112 = .ok (.aload_n 0, 1) := dk_42 (dk_at dksX5_giveSign_4 19 rfl rfl)
theorem dX5_giveSign_113 : decode cX5_giveSign 113 = .ok (.getfield 7, 3) := dk_180 0 7 (dk_at dksX5_giveSign_4 20 rfl rfl)
theorem dX5_giveSign_116 : decode cX5_giveSign 116 = .ok (.bipush 17, 2) := dk_16 17 (dk_at dksX5_giveSign_5 0 rfl rfl)
theorem dX5_giveSign_118 : decode cX5_giveSign 118 = .ok (.iload_n 1, 1) := dk_27 (dk_at dksX5_giveSign_5 2 rfl rfl)
theorem dX5_giveSign_119 : decode cX5_giveSign 119 = .ok (.iadd, 1) := dk_96 (dk_at dksX5_giveSign_5 3 rfl rfl)
theorem dX5_giveSign_120 : decode cX5_giveSign 120 = .ok (.dup2, 1) := dk_92 (dk_at dksX5_giveSign_5 4 rfl rfl)
theorem dX5_giveSign_121 : decode cX5_giveSign 121 = .ok (.iaload, 1) := dk_46 (dk_at dksX5_giveSign_5 5 rfl rfl)
theorem dX5_giveSign_122 : decode cX5_giveSign 122 = .ok (.iconst 1, 1) := dk_4 (dk_at dksX5_giveSign_5 6 rfl rfl)
theorem dX5_giveSign_123 : decode cX5_giveSign 123 = .ok (.iadd, 1) := dk_96 (dk_at dksX5_giveSign_5 7 rfl rfl)
theorem dX5_giveSign_124 : decode cX5_giveSign 124 = .ok (.iastore, 1) := dk_79 (dk_at dksX5_giveSign_5 8 rfl rfl)
theorem dX5_giveSign_125 : decode cX5_giveSign 125 = .ok (.return_, 1) := dk_177 (dk_at dksX5_giveSign_5 9 rfl rfl)
abbrev cX5_closesCorner : ByteArray := prog_11_method_24_code
def yX5_closesCorner : MethodName := ⟨RX5, "closesCorner", "(I)Z"⟩
def dkwX5_closesCorner_6 : List UInt8 := [167, 255, 143, 21, 4, 172]
abbrev dktX5_closesCorner_6 : List UInt8 := dkwX5_closesCorner_6 ++ []
def dkwX5_closesCorner_5 : List UInt8 := [182, 0, 76, 153, 0, 7, 4, 167, 0, 4, 3, 54, 4, 132, 6, 1, 167, 255, 163, 132, 5, 1]
abbrev dktX5_closesCorner_5 : List UInt8 := dkwX5_closesCorner_5 ++ dktX5_closesCorner_6
def dkwX5_closesCorner_4 : List UInt8 := [21, 5, 104, 29, 96, 182, 0, 76, 153, 0, 26, 42, 42, 180, 0, 7, 4, 46, 21, 5, 104, 21, 6, 96]
abbrev dktX5_closesCorner_4 : List UInt8 := dkwX5_closesCorner_4 ++ dktX5_closesCorner_5
def dkwX5_closesCorner_3 : List UInt8 := [180, 0, 7, 4, 46, 28, 104, 21, 6, 96, 182, 0, 76, 153, 0, 44, 42, 42, 180, 0, 7, 4, 46]
abbrev dktX5_closesCorner_3 : List UInt8 := dkwX5_closesCorner_3 ++ dktX5_closesCorner_4
def dkwX5_closesCorner_2 : List UInt8 := [162, 0, 88, 21, 5, 28, 159, 0, 82, 21, 4, 154, 0, 64, 21, 6, 29, 159, 0, 62, 42, 42]
abbrev dktX5_closesCorner_2 : List UInt8 := dkwX5_closesCorner_2 ++ dktX5_closesCorner_3
def dkwX5_closesCorner_1 : List UInt8 := [21, 5, 42, 180, 0, 7, 3, 46, 162, 0, 108, 3, 54, 6, 21, 6, 42, 180, 0, 7, 4, 46]
abbrev dktX5_closesCorner_1 : List UInt8 := dkwX5_closesCorner_1 ++ dktX5_closesCorner_2
def dkwX5_closesCorner_0 : List UInt8 := [27, 42, 180, 0, 7, 4, 46, 108, 61, 27, 42, 180, 0, 7, 4, 46, 112, 62, 3, 54, 4, 3, 54, 5]
abbrev dktX5_closesCorner_0 : List UInt8 := dkwX5_closesCorner_0 ++ dktX5_closesCorner_1
theorem dksX5_closesCorner_0 : cX5_closesCorner.data.toList.drop 0 = dktX5_closesCorner_0 := by decide +kernel
theorem dksX5_closesCorner_1 : cX5_closesCorner.data.toList.drop 24 = dktX5_closesCorner_1 := dk_seg dksX5_closesCorner_0 24 rfl rfl
theorem dksX5_closesCorner_2 : cX5_closesCorner.data.toList.drop 46 = dktX5_closesCorner_2 := dk_seg dksX5_closesCorner_1 22 rfl rfl
theorem dksX5_closesCorner_3 : cX5_closesCorner.data.toList.drop 68 = dktX5_closesCorner_3 := dk_seg dksX5_closesCorner_2 22 rfl rfl
theorem dksX5_closesCorner_4 : cX5_closesCorner.data.toList.drop 91 = dktX5_closesCorner_4 := dk_seg dksX5_closesCorner_3 23 rfl rfl
theorem dksX5_closesCorner_5 : cX5_closesCorner.data.toList.drop 115 = dktX5_closesCorner_5 := dk_seg dksX5_closesCorner_4 24 rfl rfl
theorem dksX5_closesCorner_6 : cX5_closesCorner.data.toList.drop 137 = dktX5_closesCorner_6 := dk_seg dksX5_closesCorner_5 22 rfl rfl
theorem dX5_closesCorner_0 : decode cX5_closesCorner 0 = .ok (.iload_n 1, 1) := dk_27 (dk_at dksX5_closesCorner_0 0 rfl rfl)
theorem dX5_closesCorner_1 : decode cX5_closesCorner 1 = .ok (.aload_n 0, 1) := dk_42 (dk_at dksX5_closesCorner_0 1 rfl rfl)
theorem dX5_closesCorner_2 : decode cX5_closesCorner 2 = .ok (.getfield 7, 3) := dk_180 0 7 (dk_at dksX5_closesCorner_0 2 rfl rfl)
theorem dX5_closesCorner_5 : decode cX5_closesCorner 5 = .ok (.iconst 1, 1) := dk_4 (dk_at dksX5_closesCorner_0 5 rfl rfl)
theorem dX5_closesCorner_6 : decode cX5_closesCorner 6 = .ok (.iaload, 1) := dk_46 (dk_at dksX5_closesCorner_0 6 rfl rfl)
theorem dX5_closesCorner_7 : decode cX5_closesCorner 7 = .ok (.idiv, 1) := dk_108 (dk_at dksX5_closesCorner_0 7 rfl rfl)
theorem dX5_closesCorner_8 : decode cX5_closesCorner 8 = .ok (.istore_n 2, 1) := dk_61 (dk_at dksX5_closesCorner_0 8 rfl rfl)
theorem dX5_closesCorner_9 : decode cX5_closesCorner 9 = .ok (.iload_n 1, 1) := dk_27 (dk_at dksX5_closesCorner_0 9 rfl rfl)
theorem dX5_closesCorner_10 : decode cX5_closesCorner 10 = .ok (.aload_n 0, 1) := dk_42 (dk_at dksX5_closesCorner_0 10 rfl rfl)
theorem dX5_closesCorner_11 : decode cX5_closesCorner 11 = .ok (.getfield 7, 3) := dk_180 0 7 (dk_at dksX5_closesCorner_0 11 rfl rfl)
theorem dX5_closesCorner_14 : decode cX5_closesCorner 14 = .ok (.iconst 1, 1) := dk_4 (dk_at dksX5_closesCorner_0 14 rfl rfl)
theorem dX5_closesCorner_15 : decode cX5_closesCorner 15 = .ok (.iaload, 1) := dk_46 (dk_at dksX5_closesCorner_0 15 rfl rfl)
theorem dX5_closesCorner_16 : decode cX5_closesCorner 16 = .ok (.irem, 1) := dk_112 (dk_at dksX5_closesCorner_0 16 rfl rfl)
theorem dX5_closesCorner_17 : decode cX5_closesCorner 17 = .ok (.istore_n 3, 1) := dk_62 (dk_at dksX5_closesCorner_0 17 rfl rfl)
theorem dX5_closesCorner_18 : decode cX5_closesCorner 18 = .ok (.iconst 0, 1) := dk_3 (dk_at dksX5_closesCorner_0 18 rfl rfl)
theorem dX5_closesCorner_19 : decode cX5_closesCorner 19 = .ok (.istore 4, 2) := dk_54 4 (dk_at dksX5_closesCorner_0 19 rfl rfl)
theorem dX5_closesCorner_21 : decode cX5_closesCorner 21 = .ok (.iconst 0, 1) := dk_3 (dk_at dksX5_closesCorner_0 21 rfl rfl)
theorem dX5_closesCorner_22 : decode cX5_closesCorner 22 = .ok (.istore 5, 2) := dk_54 5 (dk_at dksX5_closesCorner_0 22 rfl rfl)
theorem dX5_closesCorner_24 : decode cX5_closesCorner 24 = .ok (.iload 5, 2) := dk_21 5 (dk_at dksX5_closesCorner_1 0 rfl rfl)
theorem dX5_closesCorner_26 : decode cX5_closesCorner 26 = .ok (.aload_n 0, 1) := dk_42 (dk_at dksX5_closesCorner_1 2 rfl rfl)
theorem dX5_closesCorner_27 : decode cX5_closesCorner 27 = .ok (.getfield 7, 3) := dk_180 0 7 (dk_at dksX5_closesCorner_1 3 rfl rfl)
theorem dX5_closesCorner_30 : decode cX5_closesCorner 30 = .ok (.iconst 0, 1) := dk_3 (dk_at dksX5_closesCorner_1 6 rfl rfl)
theorem dX5_closesCorner_31 : decode cX5_closesCorner 31 = .ok (.iaload, 1) := dk_46 (dk_at dksX5_closesCorner_1 7 rfl rfl)
theorem dX5_closesCorner_32 : decode cX5_closesCorner 32 = .ok (.if_icmp .ge 108, 3) := dk_162 0 108 (dk_at dksX5_closesCorner_1 8 rfl rfl)
theorem dX5_closesCorner_35 : decode cX5_closesCorner 35 = .ok (.iconst 0, 1) := dk_3 (dk_at dksX5_closesCorner_1 11 rfl rfl)
theorem dX5_closesCorner_36 : decode cX5_closesCorner 36 = .ok (.istore 6, 2) := dk_54 6 (dk_at dksX5_closesCorner_1 12 rfl rfl)
theorem dX5_closesCorner_38 : decode cX5_closesCorner 38 = .ok (.iload 6, 2) := dk_21 6 (dk_at dksX5_closesCorner_1 14 rfl rfl)
theorem dX5_closesCorner_40 : decode cX5_closesCorner 40 = .ok (.aload_n 0, 1) := dk_42 (dk_at dksX5_closesCorner_1 16 rfl rfl)
theorem dX5_closesCorner_41 : decode cX5_closesCorner 41 = .ok (.getfield 7, 3) := dk_180 0 7 (dk_at dksX5_closesCorner_1 17 rfl rfl)
theorem dX5_closesCorner_44 : decode cX5_closesCorner 44 = .ok (.iconst 1, 1) := dk_4 (dk_at dksX5_closesCorner_1 20 rfl rfl)
theorem dX5_closesCorner_45 : decode cX5_closesCorner 45 = .ok (.iaload, 1) := dk_46 (dk_at dksX5_closesCorner_1 21 rfl rfl)
theorem dX5_closesCorner_46 : decode cX5_closesCorner 46 = .ok (.if_icmp .ge 88, 3) := dk_162 0 88 (dk_at dksX5_closesCorner_2 0 rfl rfl)
theorem dX5_closesCorner_49 : decode cX5_closesCorner 49 = .ok (.iload 5, 2) := dk_21 5 (dk_at dksX5_closesCorner_2 3 rfl rfl)
theorem dX5_closesCorner_51 : decode cX5_closesCorner 51 = .ok (.iload_n 2, 1) := dk_28 (dk_at dksX5_closesCorner_2 5 rfl rfl)
theorem dX5_closesCorner_52 : decode cX5_closesCorner 52 = .ok (.if_icmp .eq 82, 3) := dk_159 0 82 (dk_at dksX5_closesCorner_2 6 rfl rfl)
theorem dX5_closesCorner_55 : decode cX5_closesCorner 55 = .ok (.iload 4, 2) := dk_21 4 (dk_at dksX5_closesCorner_2 9 rfl rfl)
theorem dX5_closesCorner_57 : decode cX5_closesCorner 57 = .ok (.ifCond .ne 64, 3) := dk_154 0 64 (dk_at dksX5_closesCorner_2 11 rfl rfl)
theorem dX5_closesCorner_60 : decode cX5_closesCorner 60 = .ok (.iload 6, 2) := dk_21 6 (dk_at dksX5_closesCorner_2 14 rfl rfl)
theorem dX5_closesCorner_62 : decode cX5_closesCorner 62 = .ok (.iload_n 3, 1) := dk_29 (dk_at dksX5_closesCorner_2 16 rfl rfl)
theorem dX5_closesCorner_63 : decode cX5_closesCorner 63 = .ok (.if_icmp .eq 62, 3) := dk_159 0 62 (dk_at dksX5_closesCorner_2 17 rfl rfl)
theorem dX5_closesCorner_66 : decode cX5_closesCorner 66 = .ok (.aload_n 0, 1) := dk_42 (dk_at dksX5_closesCorner_2 20 rfl rfl)
theorem dX5_closesCorner_67 : decode cX5_closesCorner 67 = .ok (.aload_n 0, 1) := dk_42 (dk_at dksX5_closesCorner_2 21 rfl rfl)
theorem dX5_closesCorner_68 : decode cX5_closesCorner 68 = .ok (.getfield 7, 3) := dk_180 0 7 (dk_at dksX5_closesCorner_3 0 rfl rfl)
theorem dX5_closesCorner_71 : decode cX5_closesCorner 71 = .ok (.iconst 1, 1) := dk_4 (dk_at dksX5_closesCorner_3 3 rfl rfl)
theorem dX5_closesCorner_72 : decode cX5_closesCorner 72 = .ok (.iaload, 1) := dk_46 (dk_at dksX5_closesCorner_3 4 rfl rfl)
theorem dX5_closesCorner_73 : decode cX5_closesCorner 73 = .ok (.iload_n 2, 1) := dk_28 (dk_at dksX5_closesCorner_3 5 rfl rfl)
theorem dX5_closesCorner_74 : decode cX5_closesCorner 74 = .ok (.imul, 1) := dk_104 (dk_at dksX5_closesCorner_3 6 rfl rfl)
theorem dX5_closesCorner_75 : decode cX5_closesCorner 75 = .ok (.iload 6, 2) := dk_21 6 (dk_at dksX5_closesCorner_3 7 rfl rfl)
theorem dX5_closesCorner_77 : decode cX5_closesCorner 77 = .ok (.iadd, 1) := dk_96 (dk_at dksX5_closesCorner_3 9 rfl rfl)
theorem dX5_closesCorner_78 : decode cX5_closesCorner 78 = .ok (.invokevirtual 76, 3) := dk_182 0 76 (dk_at dksX5_closesCorner_3 10 rfl rfl)
theorem dX5_closesCorner_81 : decode cX5_closesCorner 81 = .ok (.ifCond .eq 44, 3) := dk_153 0 44 (dk_at dksX5_closesCorner_3 13 rfl rfl)
theorem dX5_closesCorner_84 : decode cX5_closesCorner 84 = .ok (.aload_n 0, 1) := dk_42 (dk_at dksX5_closesCorner_3 16 rfl rfl)
theorem dX5_closesCorner_85 : decode cX5_closesCorner 85 = .ok (.aload_n 0, 1) := dk_42 (dk_at dksX5_closesCorner_3 17 rfl rfl)
theorem dX5_closesCorner_86 : decode cX5_closesCorner 86 = .ok (.getfield 7, 3) := dk_180 0 7 (dk_at dksX5_closesCorner_3 18 rfl rfl)
theorem dX5_closesCorner_89 : decode cX5_closesCorner 89 = .ok (.iconst 1, 1) := dk_4 (dk_at dksX5_closesCorner_3 21 rfl rfl)
theorem dX5_closesCorner_90 : decode cX5_closesCorner 90 = .ok (.iaload, 1) := dk_46 (dk_at dksX5_closesCorner_3 22 rfl rfl)
theorem dX5_closesCorner_91 : decode cX5_closesCorner 91 = .ok (.iload 5, 2) := dk_21 5 (dk_at dksX5_closesCorner_4 0 rfl rfl)
theorem dX5_closesCorner_93 : decode cX5_closesCorner 93 = .ok (.imul, 1) := dk_104 (dk_at dksX5_closesCorner_4 2 rfl rfl)
theorem dX5_closesCorner_94 : decode cX5_closesCorner 94 = .ok (.iload_n 3, 1) := dk_29 (dk_at dksX5_closesCorner_4 3 rfl rfl)
theorem dX5_closesCorner_95 : decode cX5_closesCorner 95 = .ok (.iadd, 1) := dk_96 (dk_at dksX5_closesCorner_4 4 rfl rfl)
theorem dX5_closesCorner_96 : decode cX5_closesCorner 96 = .ok (.invokevirtual 76, 3) := dk_182 0 76 (dk_at dksX5_closesCorner_4 5 rfl rfl)
theorem dX5_closesCorner_99 : decode cX5_closesCorner 99 = .ok (.ifCond .eq 26, 3) := dk_153 0 26 (dk_at dksX5_closesCorner_4 8 rfl rfl)
theorem dX5_closesCorner_102 : decode cX5_closesCorner 102 = .ok (.aload_n 0, 1) := dk_42 (dk_at dksX5_closesCorner_4 11 rfl rfl)
theorem dX5_closesCorner_103 : decode cX5_closesCorner 103 = .ok (.aload_n 0, 1) := dk_42 (dk_at dksX5_closesCorner_4 12 rfl rfl)
theorem dX5_closesCorner_104 : decode cX5_closesCorner 104 = .ok (.getfield 7, 3) := dk_180 0 7 (dk_at dksX5_closesCorner_4 13 rfl rfl)
theorem dX5_closesCorner_107 : decode cX5_closesCorner 107 = .ok (.iconst 1, 1) := dk_4 (dk_at dksX5_closesCorner_4 16 rfl rfl)
theorem dX5_closesCorner_108 : decode cX5_closesCorner 108 = .ok (.iaload, 1) := dk_46 (dk_at dksX5_closesCorner_4 17 rfl rfl)
theorem dX5_closesCorner_109 : decode cX5_closesCorner 109 = .ok (.iload 5, 2) := dk_21 5 (dk_at dksX5_closesCorner_4 18 rfl rfl)
theorem dX5_closesCorner_111 : decode cX5_closesCorner 111 = .ok (.imul, 1) := dk_104 (dk_at dksX5_closesCorner_4 20 rfl rfl)
theorem dX5_closesCorner_112 : decode cX5_closesCorner 112 = .ok (.iload 6, 2) := dk_21 6 (dk_at dksX5_closesCorner_4 21 rfl rfl)
theorem dX5_closesCorner_114 : decode cX5_closesCorner 114 = .ok (.iadd, 1) := dk_96 (dk_at dksX5_closesCorner_4 23 rfl rfl)
theorem dX5_closesCorner_115 : decode cX5_closesCorner 115 = .ok (.invokevirtual 76, 3) := dk_182 0 76 (dk_at dksX5_closesCorner_5 0 rfl rfl)
theorem dX5_closesCorner_118 : decode cX5_closesCorner 118 = .ok (.ifCond .eq 7, 3) := dk_153 0 7 (dk_at dksX5_closesCorner_5 3 rfl rfl)
theorem dX5_closesCorner_121 : decode cX5_closesCorner 121 = .ok (.iconst 1, 1) := dk_4 (dk_at dksX5_closesCorner_5 6 rfl rfl)
theorem dX5_closesCorner_122 : decode cX5_closesCorner 122 = .ok (.goto 4, 3) := dk_167 0 4 (dk_at dksX5_closesCorner_5 7 rfl rfl)
theorem dX5_closesCorner_125 : decode cX5_closesCorner 125 = .ok (.iconst 0, 1) := dk_3 (dk_at dksX5_closesCorner_5 10 rfl rfl)
theorem dX5_closesCorner_126 : decode cX5_closesCorner 126 = .ok (.istore 4, 2) := dk_54 4 (dk_at dksX5_closesCorner_5 11 rfl rfl)
theorem dX5_closesCorner_128 : decode cX5_closesCorner 128 = .ok (.iinc 6 1, 3) := dk_132 6 1 (dk_at dksX5_closesCorner_5 13 rfl rfl)
theorem dX5_closesCorner_131 : decode cX5_closesCorner 131 = .ok (.goto (-93), 3) := dk_167 255 163 (dk_at dksX5_closesCorner_5 16 rfl rfl)
theorem dX5_closesCorner_134 : decode cX5_closesCorner 134 = .ok (.iinc 5 1, 3) := dk_132 5 1 (dk_at dksX5_closesCorner_5 19 rfl rfl)
theorem dX5_closesCorner_137 : decode cX5_closesCorner 137 = .ok (.goto (-113), 3) := dk_167 255 143 (dk_at dksX5_closesCorner_6 0 rfl rfl)
theorem dX5_closesCorner_140 : decode cX5_closesCorner 140 = .ok (.iload 4, 2) := dk_21 4 (dk_at dksX5_closesCorner_6 3 rfl rfl)
theorem dX5_closesCorner_142 : decode cX5_closesCorner 142 = .ok (.ireturn, 1) := dk_172 (dk_at dksX5_closesCorner_6 5 rfl rfl)
abbrev cX5_isOn : ByteArray := prog_11_method_25_code
def yX5_isOn : MethodName := ⟨RX5, "isOn", "(I)Z"⟩
def dkwX5_isOn_1 : List UInt8 := [180, 0, 7, 16, 116, 28, 96, 46, 154, 0, 7, 4, 167, 0, 4, 3, 172]
abbrev dktX5_isOn_1 : List UInt8 := dkwX5_isOn_1 ++ []
def dkwX5_isOn_0 : List UInt8 := [42, 180, 0, 7, 8, 27, 96, 46, 61, 28, 155, 0, 27, 42, 28, 182, 0, 76, 153, 0, 19, 42]
abbrev dktX5_isOn_0 : List UInt8 := dkwX5_isOn_0 ++ dktX5_isOn_1
theorem dksX5_isOn_0 : cX5_isOn.data.toList.drop 0 = dktX5_isOn_0 := by decide +kernel
theorem dksX5_isOn_1 : cX5_isOn.data.toList.drop 22 = dktX5_isOn_1 := dk_seg dksX5_isOn_0 22 rfl rfl
theorem dX5_isOn_0 : decode cX5_isOn 0 = .ok (.aload_n 0, 1) := dk_42 (dk_at dksX5_isOn_0 0 rfl rfl)
theorem dX5_isOn_1 : decode cX5_isOn 1 = .ok (.getfield 7, 3) := dk_180 0 7 (dk_at dksX5_isOn_0 1 rfl rfl)
theorem dX5_isOn_4 : decode cX5_isOn 4 = .ok (.iconst 5, 1) := dk_8 (dk_at dksX5_isOn_0 4 rfl rfl)
theorem dX5_isOn_5 : decode cX5_isOn 5 = .ok (.iload_n 1, 1) := dk_27 (dk_at dksX5_isOn_0 5 rfl rfl)
theorem dX5_isOn_6 : decode cX5_isOn 6 = .ok (.iadd, 1) := dk_96 (dk_at dksX5_isOn_0 6 rfl rfl)
theorem dX5_isOn_7 : decode cX5_isOn 7 = .ok (.iaload, 1) := dk_46 (dk_at dksX5_isOn_0 7 rfl rfl)
theorem dX5_isOn_8 : decode cX5_isOn 8 = .ok (.istore_n 2, 1) := dk_61 (dk_at dksX5_isOn_0 8 rfl rfl)
theorem dX5_isOn_9 : decode cX5_isOn 9 = .ok (.iload_n 2, 1) := dk_28 (dk_at dksX5_isOn_0 9 rfl rfl)
theorem dX5_isOn_10 : decode cX5_isOn 10 = .ok (.ifCond .lt 27, 3) := dk_155 0 27 (dk_at dksX5_isOn_0 10 rfl rfl)
theorem dX5_isOn_13 : decode cX5_isOn 13 = .ok (.aload_n 0, 1) := dk_42 (dk_at dksX5_isOn_0 13 rfl rfl)
theorem dX5_isOn_14 : decode cX5_isOn 14 = .ok (.iload_n 2, 1) := dk_28 (dk_at dksX5_isOn_0 14 rfl rfl)
theorem dX5_isOn_15 : decode cX5_isOn 15 = .ok (.invokevirtual 76, 3) := dk_182 0 76 (dk_at dksX5_isOn_0 15 rfl rfl)
theorem dX5_isOn_18 : decode cX5_isOn 18 = .ok (.ifCond .eq 19, 3) := dk_153 0 19 (dk_at dksX5_isOn_0 18 rfl rfl)
theorem dX5_isOn_21 : decode cX5_isOn 21 = .ok (.aload_n 0, 1) := dk_42 (dk_at dksX5_isOn_0 21 rfl rfl)
theorem dX5_isOn_22 : decode cX5_isOn 22 = .ok (.getfield 7, 3) := dk_180 0 7 (dk_at dksX5_isOn_1 0 rfl rfl)
theorem dX5_isOn_25 : decode cX5_isOn 25 = .ok (.bipush 116, 2) := dk_16 116 (dk_at dksX5_isOn_1 3 rfl rfl)
theorem dX5_isOn_27 : decode cX5_isOn 27 = .ok (.iload_n 2, 1) := dk_28 (dk_at dksX5_isOn_1 5 rfl rfl)
theorem dX5_isOn_28 : decode cX5_isOn 28 = .ok (.iadd, 1) := dk_96 (dk_at dksX5_isOn_1 6 rfl rfl)
theorem dX5_isOn_29 : decode cX5_isOn 29 = .ok (.iaload, 1) := dk_46 (dk_at dksX5_isOn_1 7 rfl rfl)
theorem dX5_isOn_30 : decode cX5_isOn 30 = .ok (.ifCond .ne 7, 3) := dk_154 0 7 (dk_at dksX5_isOn_1 8 rfl rfl)
theorem dX5_isOn_33 : decode cX5_isOn 33 = .ok (.iconst 1, 1) := dk_4 (dk_at dksX5_isOn_1 11 rfl rfl)
theorem dX5_isOn_34 : decode cX5_isOn 34 = .ok (.goto 4, 3) := dk_167 0 4 (dk_at dksX5_isOn_1 12 rfl rfl)
theorem dX5_isOn_37 : decode cX5_isOn 37 = .ok (.iconst 0, 1) := dk_3 (dk_at dksX5_isOn_1 15 rfl rfl)
theorem dX5_isOn_38 : decode cX5_isOn 38 = .ok (.ireturn, 1) := dk_172 (dk_at dksX5_isOn_1 16 rfl rfl)
abbrev cX5_settle : ByteArray := prog_11_method_44_code
def yX5_settle : MethodName := ⟨RX5, "settle", "(II)I"⟩
def dkwX5_settle_7 : List UInt8 := [182, 0, 147, 42, 180, 0, 7, 29, 3, 96, 46, 172]
abbrev dktX5_settle_7 : List UInt8 := dkwX5_settle_7 ++ []
def dkwX5_settle_6 : List UInt8 := [96, 46, 182, 0, 143, 42, 28, 42, 180, 0, 7, 29, 3, 96, 46, 42, 180, 0, 7, 29, 8, 96, 46]
abbrev dktX5_settle_6 : List UInt8 := dkwX5_settle_6 ++ dktX5_settle_7
def dkwX5_settle_5 : List UInt8 := [182, 0, 139, 28, 5, 162, 0, 45, 42, 28, 42, 180, 0, 7, 29, 4, 96, 46, 42, 180, 0, 7, 29, 5]
abbrev dktX5_settle_5 : List UInt8 := dkwX5_settle_5 ++ dktX5_settle_6
def dkwX5_settle_4 : List UInt8 := [16, 6, 96, 46, 16, 16, 112, 104, 96, 6, 96, 28, 79, 42, 28, 42, 180, 0, 7, 29, 7, 96, 46]
abbrev dktX5_settle_4 : List UInt8 := dkwX5_settle_4 ++ dktX5_settle_5
def dkwX5_settle_3 : List UInt8 := [16, 6, 96, 46, 100, 16, 16, 163, 0, 30, 42, 180, 0, 7, 17, 1, 52, 16, 6, 42, 180, 0, 7, 29]
abbrev dktX5_settle_3 : List UInt8 := dkwX5_settle_3 ++ dktX5_settle_4
def dkwX5_settle_2 : List UInt8 := [182, 0, 61, 42, 180, 0, 7, 29, 6, 96, 28, 79, 42, 180, 0, 7, 16, 9, 46, 42, 180, 0, 7, 29]
abbrev dktX5_settle_2 : List UInt8 := dkwX5_settle_2 ++ dktX5_settle_3
def dkwX5_settle_1 : List UInt8 := [17, 1, 148, 16, 7, 27, 104, 96, 62, 42, 180, 0, 7, 29, 6, 96, 46, 155, 0, 6, 16, 252, 172, 42]
abbrev dktX5_settle_1 : List UInt8 := dkwX5_settle_1 ++ dktX5_settle_2
def dkwX5_settle_0 : List UInt8 := [42, 27, 182, 0, 165, 153, 0, 5, 2, 172, 28, 3, 5, 184, 0, 68, 154, 0, 6, 16, 254, 172]
abbrev dktX5_settle_0 : List UInt8 := dkwX5_settle_0 ++ dktX5_settle_1
theorem dksX5_settle_0 : cX5_settle.data.toList.drop 0 = dktX5_settle_0 := by decide +kernel
theorem dksX5_settle_1 : cX5_settle.data.toList.drop 22 = dktX5_settle_1 := dk_seg dksX5_settle_0 22 rfl rfl
theorem dksX5_settle_2 : cX5_settle.data.toList.drop 46 = dktX5_settle_2 := dk_seg dksX5_settle_1 24 rfl rfl
theorem dksX5_settle_3 : cX5_settle.data.toList.drop 70 = dktX5_settle_3 := dk_seg dksX5_settle_2 24 rfl rfl
theorem dksX5_settle_4 : cX5_settle.data.toList.drop 94 = dktX5_settle_4 := dk_seg dksX5_settle_3 24 rfl rfl
theorem dksX5_settle_5 : cX5_settle.data.toList.drop 117 = dktX5_settle_5 := dk_seg dksX5_settle_4 23 rfl rfl
theorem dksX5_settle_6 : cX5_settle.data.toList.drop 141 = dktX5_settle_6 := dk_seg dksX5_settle_5 24 rfl rfl
theorem dksX5_settle_7 : cX5_settle.data.toList.drop 164 = dktX5_settle_7 := dk_seg dksX5_settle_6 23 rfl rfl
theorem dX5_settle_0 : decode cX5_settle 0 = .ok (.aload_n 0, 1) := dk_42 (dk_at dksX5_settle_0 0 rfl rfl)
theorem dX5_settle_1 : decode cX5_settle 1 = .ok (.iload_n 1, 1) := dk_27 (dk_at dksX5_settle_0 1 rfl rfl)
theorem dX5_settle_2 : decode cX5_settle 2 = .ok (.invokevirtual 165, 3) := dk_182 0 165 (dk_at dksX5_settle_0 2 rfl rfl)
theorem dX5_settle_5 : decode cX5_settle 5 = .ok (.ifCond .eq 5, 3) := dk_153 0 5 (dk_at dksX5_settle_0 5 rfl rfl)
theorem dX5_settle_8 : decode cX5_settle 8 = .ok (.iconst (-1), 1) := dk_2 (dk_at dksX5_settle_0 8 rfl rfl)
theorem dX5_settle_9 : decode cX5_settle 9 = .ok (.ireturn, 1) := dk_172 (dk_at dksX5_settle_0 9 rfl rfl)
theorem dX5_settle_10 : decode cX5_settle 10 = .ok (.iload_n 2, 1) := dk_28 (dk_at dksX5_settle_0 10 rfl rfl)
theorem dX5_settle_11 : decode cX5_settle 11 = .ok (.iconst 0, 1) := dk_3 (dk_at dksX5_settle_0 11 rfl rfl)
theorem dX5_settle_12 : decode cX5_settle 12 = .ok (.iconst 2, 1) := dk_5 (dk_at dksX5_settle_0 12 rfl rfl)
theorem dX5_settle_13 : decode cX5_settle 13 = .ok (.invokestatic 68, 3) := dk_184 0 68 (dk_at dksX5_settle_0 13 rfl rfl)
theorem dX5_settle_16 : decode cX5_settle 16 = .ok (.ifCond .ne 6, 3) := dk_154 0 6 (dk_at dksX5_settle_0 16 rfl rfl)
theorem dX5_settle_19 : decode cX5_settle 19 = .ok (.bipush (-2), 2) := dk_16 254 (dk_at dksX5_settle_0 19 rfl rfl)
theorem dX5_settle_21 : decode cX5_settle 21 = .ok (.ireturn, 1) := dk_172 (dk_at dksX5_settle_0 21 rfl rfl)
theorem dX5_settle_22 : decode cX5_settle 22 = .ok (.sipush 404, 3) := dk_17 1 148 (dk_at dksX5_settle_1 0 rfl rfl)
theorem dX5_settle_25 : decode cX5_settle 25 = .ok (.bipush 7, 2) := dk_16 7 (dk_at dksX5_settle_1 3 rfl rfl)
theorem dX5_settle_27 : decode cX5_settle 27 = .ok (.iload_n 1, 1) := dk_27 (dk_at dksX5_settle_1 5 rfl rfl)
theorem dX5_settle_28 : decode cX5_settle 28 = .ok (.imul, 1) := dk_104 (dk_at dksX5_settle_1 6 rfl rfl)
theorem dX5_settle_29 : decode cX5_settle 29 = .ok (.iadd, 1) := dk_96 (dk_at dksX5_settle_1 7 rfl rfl)
theorem dX5_settle_30 : decode cX5_settle 30 = .ok (.istore_n 3, 1) := dk_62 (dk_at dksX5_settle_1 8 rfl rfl)
theorem dX5_settle_31 : decode cX5_settle 31 = .ok (.aload_n 0, 1) := dk_42 (dk_at dksX5_settle_1 9 rfl rfl)
theorem dX5_settle_32 : decode cX5_settle 32 = .ok (.getfield 7, 3) := dk_180 0 7 (dk_at dksX5_settle_1 10 rfl rfl)
theorem dX5_settle_35 : decode cX5_settle 35 = .ok (.iload_n 3, 1) := dk_29 (dk_at dksX5_settle_1 13 rfl rfl)
theorem dX5_settle_36 : decode cX5_settle 36 = .ok (.iconst 3, 1) := dk_6 (dk_at dksX5_settle_1 14 rfl rfl)
theorem dX5_settle_37 : decode cX5_settle 37 = .ok (.iadd, 1) := dk_96 (dk_at dksX5_settle_1 15 rfl rfl)
theorem dX5_settle_38 : decode cX5_settle 38 = .ok (.iaload, 1) := dk_46 (dk_at dksX5_settle_1 16 rfl rfl)
theorem dX5_settle_39 : decode cX5_settle 39 = .ok (.ifCond .lt 6, 3) := dk_155 0 6 (dk_at dksX5_settle_1 17 rfl rfl)
theorem dX5_settle_42 : decode cX5_settle 42 = .ok (.bipush (-4), 2) := dk_16 252 (dk_at dksX5_settle_1 20 rfl rfl)
theorem dX5_settle_44 : decode cX5_settle 44 = .ok (.ireturn, 1) := dk_172 (dk_at dksX5_settle_1 22 rfl rfl)
theorem dX5_settle_45 : decode cX5_settle 45 = .ok (.aload_n 0, 1) := dk_42 (dk_at dksX5_settle_1 23 rfl rfl)
theorem dX5_settle_46 : decode cX5_settle 46 = .ok (.invokevirtual 61, 3) := dk_182 0 61 (dk_at dksX5_settle_2 0 rfl rfl)
theorem dX5_settle_49 : decode cX5_settle 49 = .ok (.aload_n 0, 1) := dk_42 (dk_at dksX5_settle_2 3 rfl rfl)
theorem dX5_settle_50 : decode cX5_settle 50 = .ok (.getfield 7, 3) := dk_180 0 7 (dk_at dksX5_settle_2 4 rfl rfl)
theorem dX5_settle_53 : decode cX5_settle 53 = .ok (.iload_n 3, 1) := dk_29 (dk_at dksX5_settle_2 7 rfl rfl)
theorem dX5_settle_54 : decode cX5_settle 54 = .ok (.iconst 3, 1) := dk_6 (dk_at dksX5_settle_2 8 rfl rfl)
theorem dX5_settle_55 : decode cX5_settle 55 = .ok (.iadd, 1) := dk_96 (dk_at dksX5_settle_2 9 rfl rfl)
theorem dX5_settle_56 : decode cX5_settle 56 = .ok (.iload_n 2, 1) := dk_28 (dk_at dksX5_settle_2 10 rfl rfl)
theorem dX5_settle_57 : decode cX5_settle 57 = .ok (.iastore, 1) := dk_79 (dk_at dksX5_settle_2 11 rfl rfl)
theorem dX5_settle_58 : decode cX5_settle 58 = .ok (.aload_n 0, 1) := dk_42 (dk_at dksX5_settle_2 12 rfl rfl)
theorem dX5_settle_59 : decode cX5_settle 59 = .ok (.getfield 7, 3) := dk_180 0 7 (dk_at dksX5_settle_2 13 rfl rfl)
theorem dX5_settle_62 : decode cX5_settle 62 = .ok (.bipush 9, 2) := dk_16 9 (dk_at dksX5_settle_2 16 rfl rfl)
theorem dX5_settle_64 : decode cX5_settle 64 = .ok (.iaload, 1) := dk_46 (dk_at dksX5_settle_2 18 rfl rfl)
theorem dX5_settle_65 : decode cX5_settle 65 = .ok (.aload_n 0, 1) := dk_42 (dk_at dksX5_settle_2 19 rfl rfl)
theorem dX5_settle_66 : decode cX5_settle 66 = .ok (.getfield 7, 3) := dk_180 0 7 (dk_at dksX5_settle_2 20 rfl rfl)
theorem dX5_settle_69 : decode cX5_settle 69 = .ok (.iload_n 3, 1) := dk_29 (dk_at dksX5_settle_2 23 rfl rfl)
theorem dX5_settle_70 : decode cX5_settle 70 = .ok (.bipush 6, 2) := dk_16 6 (dk_at dksX5_settle_3 0 rfl rfl)
theorem dX5_settle_72 : decode cX5_settle 72 = .ok (.iadd, 1) := dk_96 (dk_at dksX5_settle_3 2 rfl rfl)
theorem dX5_settle_73 : decode cX5_settle 73 = .ok (.iaload, 1) := dk_46 (dk_at dksX5_settle_3 3 rfl rfl)
theorem dX5_settle_74 : decode cX5_settle 74 = .ok (.isub, 1) := dk_100 (dk_at dksX5_settle_3 4 rfl rfl)
theorem dX5_settle_75 : decode cX5_settle 75 = .ok (.bipush 16, 2) := dk_16 16 (dk_at dksX5_settle_3 5 rfl rfl)
theorem dX5_settle_77 : decode cX5_settle 77 = .ok (.if_icmp .gt 30, 3) := dk_163 0 30 (dk_at dksX5_settle_3 7 rfl rfl)
theorem dX5_settle_80 : decode cX5_settle 80 = .ok (.aload_n 0, 1) := dk_42 (dk_at dksX5_settle_3 10 rfl rfl)
theorem dX5_settle_81 : decode cX5_settle 81 = .ok (.getfield 7, 3) := dk_180 0 7 (dk_at dksX5_settle_3 11 rfl rfl)
theorem dX5_settle_84 : decode cX5_settle 84 = .ok (.sipush 308, 3) := dk_17 1 52 (dk_at dksX5_settle_3 14 rfl rfl)
theorem dX5_settle_87 : decode cX5_settle 87 = .ok (.bipush 6, 2) := dk_16 6 (dk_at dksX5_settle_3 17 rfl rfl)
theorem dX5_settle_89 : decode cX5_settle 89 = .ok (.aload_n 0, 1) := dk_42 (dk_at dksX5_settle_3 19 rfl rfl)
theorem dX5_settle_90 : decode cX5_settle 90 = .ok (.getfield 7, 3) := dk_180 0 7 (dk_at dksX5_settle_3 20 rfl rfl)
theorem dX5_settle_93 : decode cX5_settle 93 = .ok (.iload_n 3, 1) := dk_29 (dk_at dksX5_settle_3 23 rfl rfl)
theorem dX5_settle_94 : decode cX5_settle 94 = .ok (.bipush 6, 2) := dk_16 6 (dk_at dksX5_settle_4 0 rfl rfl)
theorem dX5_settle_96 : decode cX5_settle 96 = .ok (.iadd, 1) := dk_96 (dk_at dksX5_settle_4 2 rfl rfl)
theorem dX5_settle_97 : decode cX5_settle 97 = .ok (.iaload, 1) := dk_46 (dk_at dksX5_settle_4 3 rfl rfl)
theorem dX5_settle_98 : decode cX5_settle 98 = .ok (.bipush 16, 2) := dk_16 16 (dk_at dksX5_settle_4 4 rfl rfl)
theorem dX5_settle_100 : decode cX5_settle 100 = .ok (.irem, 1) := dk_112 (dk_at dksX5_settle_4 6 rfl rfl)
theorem dX5_settle_101 : decode cX5_settle 101 = .ok (.imul, 1) := dk_104 (dk_at dksX5_settle_4 7 rfl rfl)
theorem dX5_settle_102 : decode cX5_settle 102 = .ok (.iadd, 1) := dk_96 (dk_at dksX5_settle_4 8 rfl rfl)
theorem dX5_settle_103 : decode cX5_settle 103 = .ok (.iconst 3, 1) := dk_6 (dk_at dksX5_settle_4 9 rfl rfl)
theorem dX5_settle_104 : decode cX5_settle 104 = .ok (.iadd, 1) := dk_96 (dk_at dksX5_settle_4 10 rfl rfl)
theorem dX5_settle_105 : decode cX5_settle 105 = .ok (.iload_n 2, 1) := dk_28 (dk_at dksX5_settle_4 11 rfl rfl)
theorem dX5_settle_106 : decode cX5_settle 106 = .ok (.iastore, 1) := dk_79 (dk_at dksX5_settle_4 12 rfl rfl)
theorem dX5_settle_107 : decode cX5_settle 107 = .ok (.aload_n 0, 1) := dk_42 (dk_at dksX5_settle_4 13 rfl rfl)
theorem dX5_settle_108 : decode cX5_settle 108 = .ok (.iload_n 2, 1) := dk_28 (dk_at dksX5_settle_4 14 rfl rfl)
theorem dX5_settle_109 : decode cX5_settle 109 = .ok (.aload_n 0, 1) := dk_42 (dk_at dksX5_settle_4 15 rfl rfl)
theorem dX5_settle_110 : decode cX5_settle 110 = .ok (.getfield 7, 3) := dk_180 0 7 (dk_at dksX5_settle_4 16 rfl rfl)
theorem dX5_settle_113 : decode cX5_settle 113 = .ok (.iload_n 3, 1) := dk_29 (dk_at dksX5_settle_4 19 rfl rfl)
theorem dX5_settle_114 : decode cX5_settle 114 = .ok (.iconst 4, 1) := dk_7 (dk_at dksX5_settle_4 20 rfl rfl)
theorem dX5_settle_115 : decode cX5_settle 115 = .ok (.iadd, 1) := dk_96 (dk_at dksX5_settle_4 21 rfl rfl)
theorem dX5_settle_116 : decode cX5_settle 116 = .ok (.iaload, 1) := dk_46 (dk_at dksX5_settle_4 22 rfl rfl)
theorem dX5_settle_117 : decode cX5_settle 117 = .ok (.invokevirtual 139, 3) := dk_182 0 139 (dk_at dksX5_settle_5 0 rfl rfl)
theorem dX5_settle_120 : decode cX5_settle 120 = .ok (.iload_n 2, 1) := dk_28 (dk_at dksX5_settle_5 3 rfl rfl)
theorem dX5_settle_121 : decode cX5_settle 121 = .ok (.iconst 2, 1) := dk_5 (dk_at dksX5_settle_5 4 rfl rfl)
theorem dX5_settle_122 : decode cX5_settle 122 = .ok (.if_icmp .ge 45, 3) := dk_162 0 45 (dk_at dksX5_settle_5 5 rfl rfl)
theorem dX5_settle_125 : decode cX5_settle 125 = .ok (.aload_n 0, 1) := dk_42 (dk_at dksX5_settle_5 8 rfl rfl)
theorem dX5_settle_126 : decode cX5_settle 126 = .ok (.iload_n 2, 1) := dk_28 (dk_at dksX5_settle_5 9 rfl rfl)
theorem dX5_settle_127 : decode cX5_settle 127 = .ok (.aload_n 0, 1) := dk_42 (dk_at dksX5_settle_5 10 rfl rfl)
theorem dX5_settle_128 : decode cX5_settle 128 = .ok (.getfield 7, 3) := dk_180 0 7 (dk_at dksX5_settle_5 11 rfl rfl)
theorem dX5_settle_131 : decode cX5_settle 131 = .ok (.iload_n 3, 1) := dk_29 (dk_at dksX5_settle_5 14 rfl rfl)
theorem dX5_settle_132 : decode cX5_settle 132 = .ok (.iconst 1, 1) := dk_4 (dk_at dksX5_settle_5 15 rfl rfl)
theorem dX5_settle_133 : decode cX5_settle 133 = .ok (.iadd, 1) := dk_96 (dk_at dksX5_settle_5 16 rfl rfl)
theorem dX5_settle_134 : decode cX5_settle 134 = .ok (.iaload, 1) := dk_46 (dk_at dksX5_settle_5 17 rfl rfl)
theorem dX5_settle_135 : decode cX5_settle 135 = .ok (.aload_n 0, 1) := dk_42 (dk_at dksX5_settle_5 18 rfl rfl)
theorem dX5_settle_136 : decode cX5_settle 136 = .ok (.getfield 7, 3) := dk_180 0 7 (dk_at dksX5_settle_5 19 rfl rfl)
theorem dX5_settle_139 : decode cX5_settle 139 = .ok (.iload_n 3, 1) := dk_29 (dk_at dksX5_settle_5 22 rfl rfl)
theorem dX5_settle_140 : decode cX5_settle 140 = .ok (.iconst 2, 1) := dk_5 (dk_at dksX5_settle_5 23 rfl rfl)
theorem dX5_settle_141 : decode cX5_settle 141 = .ok (.iadd, 1) := dk_96 (dk_at dksX5_settle_6 0 rfl rfl)
theorem dX5_settle_142 : decode cX5_settle 142 = .ok (.iaload, 1) := dk_46 (dk_at dksX5_settle_6 1 rfl rfl)
theorem dX5_settle_143 : decode cX5_settle 143 = .ok (.invokevirtual 143, 3) := dk_182 0 143 (dk_at dksX5_settle_6 2 rfl rfl)
theorem dX5_settle_146 : decode cX5_settle 146 = .ok (.aload_n 0, 1) := dk_42 (dk_at dksX5_settle_6 5 rfl rfl)
theorem dX5_settle_147 : decode cX5_settle 147 = .ok (.iload_n 2, 1) := dk_28 (dk_at dksX5_settle_6 6 rfl rfl)
theorem dX5_settle_148 : decode cX5_settle 148 = .ok (.aload_n 0, 1) := dk_42 (dk_at dksX5_settle_6 7 rfl rfl)
theorem dX5_settle_149 : decode cX5_settle 149 = .ok (.getfield 7, 3) := dk_180 0 7 (dk_at dksX5_settle_6 8 rfl rfl)
theorem dX5_settle_152 : decode cX5_settle 152 = .ok (.iload_n 3, 1) := dk_29 (dk_at dksX5_settle_6 11 rfl rfl)
theorem dX5_settle_153 : decode cX5_settle 153 = .ok (.iconst 0, 1) := dk_3 (dk_at dksX5_settle_6 12 rfl rfl)
theorem dX5_settle_154 : decode cX5_settle 154 = .ok (.iadd, 1) := dk_96 (dk_at dksX5_settle_6 13 rfl rfl)
theorem dX5_settle_155 : decode cX5_settle 155 = .ok (.iaload, 1) := dk_46 (dk_at dksX5_settle_6 14 rfl rfl)
theorem dX5_settle_156 : decode cX5_settle 156 = .ok (.aload_n 0, 1) := dk_42 (dk_at dksX5_settle_6 15 rfl rfl)
theorem dX5_settle_157 : decode cX5_settle 157 = .ok (.getfield 7, 3) := dk_180 0 7 (dk_at dksX5_settle_6 16 rfl rfl)
theorem dX5_settle_160 : decode cX5_settle 160 = .ok (.iload_n 3, 1) := dk_29 (dk_at dksX5_settle_6 19 rfl rfl)
theorem dX5_settle_161 : decode cX5_settle 161 = .ok (.iconst 5, 1) := dk_8 (dk_at dksX5_settle_6 20 rfl rfl)
theorem dX5_settle_162 : decode cX5_settle 162 = .ok (.iadd, 1) := dk_96 (dk_at dksX5_settle_6 21 rfl rfl)
theorem dX5_settle_163 : decode cX5_settle 163 = .ok (.iaload, 1) := dk_46 (dk_at dksX5_settle_6 22 rfl rfl)
theorem dX5_settle_164 : decode cX5_settle 164 = .ok (.invokevirtual 147, 3) := dk_182 0 147 (dk_at dksX5_settle_7 0 rfl rfl)
theorem dX5_settle_167 : decode cX5_settle 167 = .ok (.aload_n 0, 1) := dk_42 (dk_at dksX5_settle_7 3 rfl rfl)
theorem dX5_settle_168 : decode cX5_settle 168 = .ok (.getfield 7, 3) := dk_180 0 7 (dk_at dksX5_settle_7 4 rfl rfl)
theorem dX5_settle_171 : decode cX5_settle 171 = .ok (.iload_n 3, 1) := dk_29 (dk_at dksX5_settle_7 7 rfl rfl)
theorem dX5_settle_172 : decode cX5_settle 172 = .ok (.iconst 0, 1) := dk_3 (dk_at dksX5_settle_7 8 rfl rfl)
theorem dX5_settle_173 : decode cX5_settle 173 = .ok (.iadd, 1) := dk_96 (dk_at dksX5_settle_7 9 rfl rfl)
theorem dX5_settle_174 : decode cX5_settle 174 = .ok (.iaload, 1) := dk_46 (dk_at dksX5_settle_7 10 rfl rfl)
theorem dX5_settle_175 : decode cX5_settle 175 = .ok (.ireturn, 1) := dk_172 (dk_at dksX5_settle_7 11 rfl rfl)
abbrev cX5_noDispute : ByteArray := prog_11_method_43_code
def yX5_noDispute : MethodName := ⟨RX5, "noDispute", "(I)Z"⟩
def dkwX5_noDispute_0 : List UInt8 := [27, 3, 42, 180, 0, 7, 16, 16, 46, 4, 100, 184, 0, 68, 154, 0, 7, 4, 167, 0, 4, 3, 172]
abbrev dktX5_noDispute_0 : List UInt8 := dkwX5_noDispute_0 ++ []
theorem dksX5_noDispute_0 : cX5_noDispute.data.toList.drop 0 = dktX5_noDispute_0 := by decide +kernel
theorem dX5_noDispute_0 : decode cX5_noDispute 0 = .ok (.iload_n 1, 1) := dk_27 (dk_at dksX5_noDispute_0 0 rfl rfl)
theorem dX5_noDispute_1 : decode cX5_noDispute 1 = .ok (.iconst 0, 1) := dk_3 (dk_at dksX5_noDispute_0 1 rfl rfl)
theorem dX5_noDispute_2 : decode cX5_noDispute 2 = .ok (.aload_n 0, 1) := dk_42 (dk_at dksX5_noDispute_0 2 rfl rfl)
theorem dX5_noDispute_3 : decode cX5_noDispute 3 = .ok (.getfield 7, 3) := dk_180 0 7 (dk_at dksX5_noDispute_0 3 rfl rfl)
theorem dX5_noDispute_6 : decode cX5_noDispute 6 = .ok (.bipush 16, 2) := dk_16 16 (dk_at dksX5_noDispute_0 6 rfl rfl)
theorem dX5_noDispute_8 : decode cX5_noDispute 8 = .ok (.iaload, 1) := dk_46 (dk_at dksX5_noDispute_0 8 rfl rfl)
theorem dX5_noDispute_9 : decode cX5_noDispute 9 = .ok (.iconst 1, 1) := dk_4 (dk_at dksX5_noDispute_0 9 rfl rfl)
theorem dX5_noDispute_10 : decode cX5_noDispute 10 = .ok (.isub, 1) := dk_100 (dk_at dksX5_noDispute_0 10 rfl rfl)
theorem dX5_noDispute_11 : decode cX5_noDispute 11 = .ok (.invokestatic 68, 3) := dk_184 0 68 (dk_at dksX5_noDispute_0 11 rfl rfl)
theorem dX5_noDispute_14 : decode cX5_noDispute 14 = .ok (.ifCond .ne 7, 3) := dk_154 0 7 (dk_at dksX5_noDispute_0 14 rfl rfl)
theorem dX5_noDispute_17 : decode cX5_noDispute 17 = .ok (.iconst 1, 1) := dk_4 (dk_at dksX5_noDispute_0 17 rfl rfl)
theorem dX5_noDispute_18 : decode cX5_noDispute 18 = .ok (.goto 4, 3) := dk_167 0 4 (dk_at dksX5_noDispute_0 18 rfl rfl)
theorem dX5_noDispute_21 : decode cX5_noDispute 21 = .ok (.iconst 0, 1) := dk_3 (dk_at dksX5_noDispute_0 21 rfl rfl)
theorem dX5_noDispute_22 : decode cX5_noDispute 22 = .ok (.ireturn, 1) := dk_172 (dk_at dksX5_noDispute_0 22 rfl rfl)
abbrev cX5_type : ByteArray := prog_11_method_45_code
def yX5_type : MethodName := ⟨RX5, "type", "(C)I"⟩
def dkwX5_type_1 : List UInt8 := [180, 0, 168, 4, 96, 181, 0, 168, 42, 180, 0, 168, 172]
abbrev dktX5_type_1 : List UInt8 := dkwX5_type_1 ++ []
def dkwX5_type_0 : List UInt8 := [42, 180, 0, 168, 16, 60, 160, 0, 6, 16, 253, 172, 42, 180, 0, 35, 42, 180, 0, 168, 27, 85, 42, 89]
abbrev dktX5_type_0 : List UInt8 := dkwX5_type_0 ++ dktX5_type_1
theorem dksX5_type_0 : cX5_type.data.toList.drop 0 = dktX5_type_0 := by decide +kernel
theorem dksX5_type_1 : cX5_type.data.toList.drop 24 = dktX5_type_1 := dk_seg dksX5_type_0 24 rfl rfl
theorem dX5_type_0 : decode cX5_type 0 = .ok (.aload_n 0, 1) := dk_42 (dk_at dksX5_type_0 0 rfl rfl)
theorem dX5_type_1 : decode cX5_type 1 = .ok (.getfield 168, 3) := dk_180 0 168 (dk_at dksX5_type_0 1 rfl rfl)
theorem dX5_type_4 : decode cX5_type 4 = .ok (.bipush 60, 2) := dk_16 60 (dk_at dksX5_type_0 4 rfl rfl)
theorem dX5_type_6 : decode cX5_type 6 = .ok (.if_icmp .ne 6, 3) := dk_160 0 6 (dk_at dksX5_type_0 6 rfl rfl)
theorem dX5_type_9 : decode cX5_type 9 = .ok (.bipush (-3), 2) := dk_16 253 (dk_at dksX5_type_0 9 rfl rfl)
theorem dX5_type_11 : decode cX5_type 11 = .ok (.ireturn, 1) := dk_172 (dk_at dksX5_type_0 11 rfl rfl)
theorem dX5_type_12 : decode cX5_type 12 = .ok (.aload_n 0, 1) := dk_42 (dk_at dksX5_type_0 12 rfl rfl)
theorem dX5_type_13 : decode cX5_type 13 = .ok (.getfield 35, 3) := dk_180 0 35 (dk_at dksX5_type_0 13 rfl rfl)
theorem dX5_type_16 : decode cX5_type 16 = .ok (.aload_n 0, 1) := dk_42 (dk_at dksX5_type_0 16 rfl rfl)
theorem dX5_type_17 : decode cX5_type 17 = .ok (.getfield 168, 3) := dk_180 0 168 (dk_at dksX5_type_0 17 rfl rfl)
theorem dX5_type_20 : decode cX5_type 20 = .ok (.iload_n 1, 1) := dk_27 (dk_at dksX5_type_0 20 rfl rfl)
theorem dX5_type_21 : decode cX5_type 21 = .ok (.castore, 1) := dk_85 (dk_at dksX5_type_0 21 rfl rfl)
theorem dX5_type_22 : decode cX5_type 22 = .ok (.aload_n 0, 1) := dk_42 (dk_at dksX5_type_0 22 rfl rfl)
theorem dX5_type_23 : decode cX5_type 23 = .ok (.dup, 1) := dk_89 (dk_at dksX5_type_0 23 rfl rfl)
theorem dX5_type_24 : decode cX5_type 24 = .ok (.getfield 168, 3) := dk_180 0 168 (dk_at dksX5_type_1 0 rfl rfl)
theorem dX5_type_27 : decode cX5_type 27 = .ok (.iconst 1, 1) := dk_4 (dk_at dksX5_type_1 3 rfl rfl)
theorem dX5_type_28 : decode cX5_type 28 = .ok (.iadd, 1) := dk_96 (dk_at dksX5_type_1 4 rfl rfl)
theorem dX5_type_29 : decode cX5_type 29 = .ok (.putfield 168, 3) := dk_181 0 168 (dk_at dksX5_type_1 5 rfl rfl)
theorem dX5_type_32 : decode cX5_type 32 = .ok (.aload_n 0, 1) := dk_42 (dk_at dksX5_type_1 8 rfl rfl)
theorem dX5_type_33 : decode cX5_type 33 = .ok (.getfield 168, 3) := dk_180 0 168 (dk_at dksX5_type_1 9 rfl rfl)
theorem dX5_type_36 : decode cX5_type 36 = .ok (.ireturn, 1) := dk_172 (dk_at dksX5_type_1 12 rfl rfl)
abbrev cX5_clearText : ByteArray := prog_11_method_46_code
def yX5_clearText : MethodName := ⟨RX5, "clearText", "()I"⟩
def dkwX5_clearText_0 : List UInt8 := [42, 180, 0, 168, 60, 42, 3, 181, 0, 168, 27, 172]
abbrev dktX5_clearText_0 : List UInt8 := dkwX5_clearText_0 ++ []
theorem dksX5_clearText_0 : cX5_clearText.data.toList.drop 0 = dktX5_clearText_0 := by decide +kernel
theorem dX5_clearText_0 : decode cX5_clearText 0 = .ok (.aload_n 0, 1) := dk_42 (dk_at dksX5_clearText_0 0 rfl rfl)
theorem dX5_clearText_1 : decode cX5_clearText 1 = .ok (.getfield 168, 3) := dk_180 0 168 (dk_at dksX5_clearText_0 1 rfl rfl)
theorem dX5_clearText_4 : decode cX5_clearText 4 = .ok (.istore_n 1, 1) := dk_60 (dk_at dksX5_clearText_0 4 rfl rfl)
theorem dX5_clearText_5 : decode cX5_clearText 5 = .ok (.aload_n 0, 1) := dk_42 (dk_at dksX5_clearText_0 5 rfl rfl)
theorem dX5_clearText_6 : decode cX5_clearText 6 = .ok (.iconst 0, 1) := dk_3 (dk_at dksX5_clearText_0 6 rfl rfl)
theorem dX5_clearText_7 : decode cX5_clearText 7 = .ok (.putfield 168, 3) := dk_181 0 168 (dk_at dksX5_clearText_0 7 rfl rfl)
theorem dX5_clearText_10 : decode cX5_clearText 10 = .ok (.iload_n 1, 1) := dk_27 (dk_at dksX5_clearText_0 10 rfl rfl)
theorem dX5_clearText_11 : decode cX5_clearText 11 = .ok (.ireturn, 1) := dk_172 (dk_at dksX5_clearText_0 11 rfl rfl)
abbrev cX5_perform : ByteArray := prog_11_method_51_code
def yX5_perform : MethodName := ⟨RX5, "perform", "()I"⟩
def dkwX5_perform_1 : List UInt8 := [182, 0, 185, 60, 27, 156, 0, 9, 42, 182, 0, 188, 27, 172, 42, 182, 0, 54, 27, 172]
abbrev dktX5_perform_1 : List UInt8 := dkwX5_perform_1 ++ []
def dkwX5_perform_0 : List UInt8 := [42, 3, 182, 0, 185, 156, 0, 11, 16, 156, 42, 180, 0, 171, 100, 172, 42, 182, 0, 51, 42, 4]
abbrev dktX5_perform_0 : List UInt8 := dkwX5_perform_0 ++ dktX5_perform_1
theorem dksX5_perform_0 : cX5_perform.data.toList.drop 0 = dktX5_perform_0 := by decide +kernel
theorem dksX5_perform_1 : cX5_perform.data.toList.drop 22 = dktX5_perform_1 := dk_seg dksX5_perform_0 22 rfl rfl
theorem dX5_perform_0 : decode cX5_perform 0 = .ok (.aload_n 0, 1) := dk_42 (dk_at dksX5_perform_0 0 rfl rfl)
theorem dX5_perform_1 : decode cX5_perform 1 = .ok (.iconst 0, 1) := dk_3 (dk_at dksX5_perform_0 1 rfl rfl)
theorem dX5_perform_2 : decode cX5_perform 2 = .ok (.invokevirtual 185, 3) := dk_182 0 185 (dk_at dksX5_perform_0 2 rfl rfl)
theorem dX5_perform_5 : decode cX5_perform 5 = .ok (.ifCond .ge 11, 3) := dk_156 0 11 (dk_at dksX5_perform_0 5 rfl rfl)
theorem dX5_perform_8 : decode cX5_perform 8 = .ok (.bipush (-100), 2) := dk_16 156 (dk_at dksX5_perform_0 8 rfl rfl)
theorem dX5_perform_10 : decode cX5_perform 10 = .ok (.aload_n 0, 1) := dk_42 (dk_at dksX5_perform_0 10 rfl rfl)
theorem dX5_perform_11 : decode cX5_perform 11 = .ok (.getfield 171, 3) := dk_180 0 171 (dk_at dksX5_perform_0 11 rfl rfl)
theorem dX5_perform_14 : decode cX5_perform 14 = .ok (.isub, 1) := dk_100 (dk_at dksX5_perform_0 14 rfl rfl)
theorem dX5_perform_15 : decode cX5_perform 15 = .ok (.ireturn, 1) := dk_172 (dk_at dksX5_perform_0 15 rfl rfl)
theorem dX5_perform_16 : decode cX5_perform 16 = .ok (.aload_n 0, 1) := dk_42 (dk_at dksX5_perform_0 16 rfl rfl)
theorem dX5_perform_17 : decode cX5_perform 17 = .ok (.invokevirtual 51, 3) := dk_182 0 51 (dk_at dksX5_perform_0 17 rfl rfl)
theorem dX5_perform_20 : decode cX5_perform 20 = .ok (.aload_n 0, 1) := dk_42 (dk_at dksX5_perform_0 20 rfl rfl)
theorem dX5_perform_21 : decode cX5_perform 21 = .ok (.iconst 1, 1) := dk_4 (dk_at dksX5_perform_0 21 rfl rfl)
theorem dX5_perform_22 : decode cX5_perform 22 = .ok (.invokevirtual 185, 3) := dk_182 0 185 (dk_at dksX5_perform_1 0 rfl rfl)
theorem dX5_perform_25 : decode cX5_perform 25 = .ok (.istore_n 1, 1) := dk_60 (dk_at dksX5_perform_1 3 rfl rfl)
theorem dX5_perform_26 : decode cX5_perform 26 = .ok (.iload_n 1, 1) := dk_27 (dk_at dksX5_perform_1 4 rfl rfl)
theorem dX5_perform_27 : decode cX5_perform 27 = .ok (.ifCond .ge 9, 3) := dk_156 0 9 (dk_at dksX5_perform_1 5 rfl rfl)
theorem dX5_perform_30 : decode cX5_perform 30 = .ok (.aload_n 0, 1) := dk_42 (dk_at dksX5_perform_1 8 rfl rfl)
theorem dX5_perform_31 : decode cX5_perform 31 = .ok (.invokevirtual 188, 3) := dk_182 0 188 (dk_at dksX5_perform_1 9 rfl rfl)
theorem dX5_perform_34 : decode cX5_perform 34 = .ok (.iload_n 1, 1) := dk_27 (dk_at dksX5_perform_1 12 rfl rfl)
theorem dX5_perform_35 : decode cX5_perform 35 = .ok (.ireturn, 1) := dk_172 (dk_at dksX5_perform_1 13 rfl rfl)
theorem dX5_perform_36 : decode cX5_perform 36 = .ok (.aload_n 0, 1) := dk_42 (dk_at dksX5_perform_1 14 rfl rfl)
theorem dX5_perform_37 : decode cX5_perform 37 = .ok (.invokevirtual 54, 3) := dk_182 0 54 (dk_at dksX5_perform_1 15 rfl rfl)
theorem dX5_perform_40 : decode cX5_perform 40 = .ok (.iload_n 1, 1) := dk_27 (dk_at dksX5_perform_1 18 rfl rfl)
theorem dX5_perform_41 : decode cX5_perform 41 = .ok (.ireturn, 1) := dk_172 (dk_at dksX5_perform_1 19 rfl rfl)
abbrev cX5_moves : ByteArray := prog_11_method_50_code
def yX5_moves : MethodName := ⟨RX5, "moves", "(Z)I"⟩
def dkwX5_moves_3 : List UInt8 := [180, 0, 168, 162, 0, 8, 16, 156, 167, 0, 4, 28, 172]
abbrev dktX5_moves_3 : List UInt8 := dkwX5_moves_3 ++ []
def dkwX5_moves_2 : List UInt8 := [180, 0, 171, 29, 153, 0, 7, 4, 167, 0, 4, 3, 96, 181, 0, 171, 167, 255, 205, 42, 180, 0, 171, 42]
abbrev dktX5_moves_2 : List UInt8 := dkwX5_moves_2 ++ dktX5_moves_3
def dkwX5_moves_1 : List UInt8 := [156, 0, 6, 21, 4, 172, 28, 21, 4, 96, 61, 42, 16, 59, 16, 59, 182, 0, 174, 62, 42, 89]
abbrev dktX5_moves_1 : List UInt8 := dkwX5_moves_1 ++ dktX5_moves_2
def dkwX5_moves_0 : List UInt8 := [42, 3, 181, 0, 171, 3, 61, 4, 62, 29, 153, 0, 53, 42, 27, 182, 0, 181, 54, 4, 21, 4]
abbrev dktX5_moves_0 : List UInt8 := dkwX5_moves_0 ++ dktX5_moves_1
theorem dksX5_moves_0 : cX5_moves.data.toList.drop 0 = dktX5_moves_0 := by decide +kernel
theorem dksX5_moves_1 : cX5_moves.data.toList.drop 22 = dktX5_moves_1 := dk_seg dksX5_moves_0 22 rfl rfl
theorem dksX5_moves_2 : cX5_moves.data.toList.drop 44 = dktX5_moves_2 := dk_seg dksX5_moves_1 22 rfl rfl
theorem dksX5_moves_3 : cX5_moves.data.toList.drop 68 = dktX5_moves_3 := dk_seg dksX5_moves_2 24 rfl rfl
theorem dX5_moves_0 : decode cX5_moves 0 = .ok (.aload_n 0, 1) := dk_42 (dk_at dksX5_moves_0 0 rfl rfl)
theorem dX5_moves_1 : decode cX5_moves 1 = .ok (.iconst 0, 1) := dk_3 (dk_at dksX5_moves_0 1 rfl rfl)
theorem dX5_moves_2 : decode cX5_moves 2 = .ok (.putfield 171, 3) := dk_181 0 171 (dk_at dksX5_moves_0 2 rfl rfl)
theorem dX5_moves_5 : decode cX5_moves 5 = .ok (.iconst 0, 1) := dk_3 (dk_at dksX5_moves_0 5 rfl rfl)
theorem dX5_moves_6 : decode cX5_moves 6 = .ok (.istore_n 2, 1) := dk_61 (dk_at dksX5_moves_0 6 rfl rfl)
theorem dX5_moves_7 : decode cX5_moves 7 = .ok (.iconst 1, 1) := dk_4 (dk_at dksX5_moves_0 7 rfl rfl)
theorem dX5_moves_8 : decode cX5_moves 8 = .ok (.istore_n 3, 1) := dk_62 (dk_at dksX5_moves_0 8 rfl rfl)
theorem dX5_moves_9 : decode cX5_moves 9 = .ok (.iload_n 3, 1) := dk_29 (dk_at dksX5_moves_0 9 rfl rfl)
theorem dX5_moves_10 : decode cX5_moves 10 = .ok (.ifCond .eq 53, 3) := dk_153 0 53 (dk_at dksX5_moves_0 10 rfl rfl)
theorem dX5_moves_13 : decode cX5_moves 13 = .ok (.aload_n 0, 1) := dk_42 (dk_at dksX5_moves_0 13 rfl rfl)
theorem dX5_moves_14 : decode cX5_moves 14 = .ok (.iload_n 1, 1) := dk_27 (dk_at dksX5_moves_0 14 rfl rfl)
theorem dX5_moves_15 : decode cX5_moves 15 = .ok (.invokevirtual 181, 3) := dk_182 0 181 (dk_at dksX5_moves_0 15 rfl rfl)
theorem dX5_moves_18 : decode cX5_moves 18 = .ok (.istore 4, 2) := dk_54 4 (dk_at dksX5_moves_0 18 rfl rfl)
theorem dX5_moves_20 : decode cX5_moves 20 = .ok (.iload 4, 2) := dk_21 4 (dk_at dksX5_moves_0 20 rfl rfl)
theorem dX5_moves_22 : decode cX5_moves 22 = .ok (.ifCond .ge 6, 3) := dk_156 0 6 (dk_at dksX5_moves_1 0 rfl rfl)
theorem dX5_moves_25 : decode cX5_moves 25 = .ok (.iload 4, 2) := dk_21 4 (dk_at dksX5_moves_1 3 rfl rfl)
theorem dX5_moves_27 : decode cX5_moves 27 = .ok (.ireturn, 1) := dk_172 (dk_at dksX5_moves_1 5 rfl rfl)
theorem dX5_moves_28 : decode cX5_moves 28 = .ok (.iload_n 2, 1) := dk_28 (dk_at dksX5_moves_1 6 rfl rfl)
theorem dX5_moves_29 : decode cX5_moves 29 = .ok (.iload 4, 2) := dk_21 4 (dk_at dksX5_moves_1 7 rfl rfl)
theorem dX5_moves_31 : decode cX5_moves 31 = .ok (.iadd, 1) := dk_96 (dk_at dksX5_moves_1 9 rfl rfl)
theorem dX5_moves_32 : decode cX5_moves 32 = .ok (.istore_n 2, 1) := dk_61 (dk_at dksX5_moves_1 10 rfl rfl)
theorem dX5_moves_33 : decode cX5_moves 33 = .ok (.aload_n 0, 1) := dk_42 (dk_at dksX5_moves_1 11 rfl rfl)
theorem dX5_moves_34 : decode cX5_moves 34 = .ok (.bipush 59, 2) := dk_16 59 (dk_at dksX5_moves_1 12 rfl rfl)
theorem dX5_moves_36 : decode cX5_moves 36 = .ok (.bipush 59, 2) := dk_16 59 (dk_at dksX5_moves_1 14 rfl rfl)
theorem dX5_moves_38 : decode cX5_moves 38 = .ok (.invokevirtual 174, 3) := dk_182 0 174 (dk_at dksX5_moves_1 16 rfl rfl)
theorem dX5_moves_41 : decode cX5_moves 41 = .ok (.istore_n 3, 1) := dk_62 (dk_at dksX5_moves_1 19 rfl rfl)
theorem dX5_moves_42 : decode cX5_moves 42 = .ok (.aload_n 0, 1) := dk_42 (dk_at dksX5_moves_1 20 rfl rfl)
theorem dX5_moves_43 : decode cX5_moves 43 = .ok (.dup, 1) := dk_89 (dk_at dksX5_moves_1 21 rfl rfl)
theorem dX5_moves_44 : decode cX5_moves 44 = .ok (.getfield 171, 3) := dk_180 0 171 (dk_at dksX5_moves_2 0 rfl rfl)
theorem dX5_moves_47 : decode cX5_moves 47 = .ok (.iload_n 3, 1) := dk_29 (dk_at dksX5_moves_2 3 rfl rfl)
theorem dX5_moves_48 : decode cX5_moves 48 = .ok (.ifCond .eq 7, 3) := dk_153 0 7 (dk_at dksX5_moves_2 4 rfl rfl)
theorem dX5_moves_51 : decode cX5_moves 51 = .ok (.iconst 1, 1) := dk_4 (dk_at dksX5_moves_2 7 rfl rfl)
theorem dX5_moves_52 : decode cX5_moves 52 = .ok (.goto 4, 3) := dk_167 0 4 (dk_at dksX5_moves_2 8 rfl rfl)
theorem dX5_moves_55 : decode cX5_moves 55 = .ok (.iconst 0, 1) := dk_3 (dk_at dksX5_moves_2 11 rfl rfl)
theorem dX5_moves_56 : decode cX5_moves 56 = .ok (.iadd, 1) := dk_96 (dk_at dksX5_moves_2 12 rfl rfl)
theorem dX5_moves_57 : decode cX5_moves 57 = .ok (.putfield 171, 3) := dk_181 0 171 (dk_at dksX5_moves_2 13 rfl rfl)
theorem dX5_moves_60 : decode cX5_moves 60 = .ok (.goto (-51), 3) := dk_167 255 205 (dk_at dksX5_moves_2 16 rfl rfl)
theorem dX5_moves_63 : decode cX5_moves 63 = .ok (.aload_n 0, 1) := dk_42 (dk_at dksX5_moves_2 19 rfl rfl)
theorem dX5_moves_64 : decode cX5_moves 64 = .ok (.getfield 171, 3) := dk_180 0 171 (dk_at dksX5_moves_2 20 rfl rfl)
theorem dX5_moves_67 : decode cX5_moves 67 = .ok (.aload_n 0, 1) := dk_42 (dk_at dksX5_moves_2 23 rfl rfl)
theorem dX5_moves_68 : decode cX5_moves 68 = .ok (.getfield 168, 3) := dk_180 0 168 (dk_at dksX5_moves_3 0 rfl rfl)
theorem dX5_moves_71 : decode cX5_moves 71 = .ok (.if_icmp .ge 8, 3) := dk_162 0 8 (dk_at dksX5_moves_3 3 rfl rfl)
theorem dX5_moves_74 : decode cX5_moves 74 = .ok (.bipush (-100), 2) := dk_16 156 (dk_at dksX5_moves_3 6 rfl rfl)
theorem dX5_moves_76 : decode cX5_moves 76 = .ok (.goto 4, 3) := dk_167 0 4 (dk_at dksX5_moves_3 8 rfl rfl)
theorem dX5_moves_79 : decode cX5_moves 79 = .ok (.iload_n 2, 1) := dk_28 (dk_at dksX5_moves_3 11 rfl rfl)
theorem dX5_moves_80 : decode cX5_moves 80 = .ok (.ireturn, 1) := dk_172 (dk_at dksX5_moves_3 12 rfl rfl)
abbrev cX5_move : ByteArray := prog_11_method_49_code
def yX5_move : MethodName := ⟨RX5, "move", "(Z)I"⟩
def dkwX5_move_8 : List UInt8 := [167, 0, 5, 16, 251, 79, 21, 5, 172]
abbrev dktX5_move_8 : List UInt8 := dkwX5_move_8 ++ []
def dkwX5_move_7 : List UInt8 := [182, 0, 156, 54, 5, 21, 5, 154, 0, 23, 42, 180, 0, 7, 16, 20, 21, 4, 96, 29, 153, 0, 7, 28]
abbrev dktX5_move_7 : List UInt8 := dkwX5_move_7 ++ dktX5_move_8
def dkwX5_move_6 : List UInt8 := [154, 0, 5, 3, 172, 29, 153, 0, 13, 42, 28, 21, 4, 182, 0, 153, 167, 0, 10, 42, 28, 21, 4]
abbrev dktX5_move_6 : List UInt8 := dkwX5_move_6 ++ dktX5_move_7
def dkwX5_move_5 : List UInt8 := [180, 0, 171, 4, 96, 181, 0, 171, 42, 3, 182, 0, 178, 54, 4, 21, 4, 156, 0, 6, 16, 156, 172, 27]
abbrev dktX5_move_5 : List UInt8 := dkwX5_move_5 ++ dktX5_move_6
def dkwX5_move_4 : List UInt8 := [182, 0, 174, 62, 29, 154, 0, 17, 42, 16, 117, 16, 117, 182, 0, 174, 154, 0, 6, 16, 156, 172, 42, 89]
abbrev dktX5_move_4 : List UInt8 := dkwX5_move_4 ++ dktX5_move_5
def dkwX5_move_3 : List UInt8 := [180, 0, 171, 52, 16, 48, 100, 61, 42, 89, 180, 0, 171, 4, 96, 181, 0, 171, 42, 16, 100, 16, 100]
abbrev dktX5_move_3 : List UInt8 := dkwX5_move_3 ++ dktX5_move_4
def dkwX5_move_2 : List UInt8 := [167, 0, 4, 3, 172, 42, 16, 48, 16, 49, 182, 0, 174, 154, 0, 6, 16, 156, 172, 42, 180, 0, 35, 42]
abbrev dktX5_move_2 : List UInt8 := dkwX5_move_2 ++ dktX5_move_3
def dkwX5_move_1 : List UInt8 := [182, 0, 178, 61, 28, 156, 0, 8, 16, 156, 167, 0, 16, 27, 153, 0, 11, 42, 28, 182, 0, 162]
abbrev dktX5_move_1 : List UInt8 := dkwX5_move_1 ++ dktX5_move_2
def dkwX5_move_0 : List UInt8 := [42, 16, 116, 16, 116, 182, 0, 174, 153, 0, 42, 42, 89, 180, 0, 171, 4, 96, 181, 0, 171, 42, 4]
abbrev dktX5_move_0 : List UInt8 := dkwX5_move_0 ++ dktX5_move_1
theorem dksX5_move_0 : cX5_move.data.toList.drop 0 = dktX5_move_0 := by decide +kernel
theorem dksX5_move_1 : cX5_move.data.toList.drop 23 = dktX5_move_1 := dk_seg dksX5_move_0 23 rfl rfl
theorem dksX5_move_2 : cX5_move.data.toList.drop 45 = dktX5_move_2 := dk_seg dksX5_move_1 22 rfl rfl
theorem dksX5_move_3 : cX5_move.data.toList.drop 69 = dktX5_move_3 := dk_seg dksX5_move_2 24 rfl rfl
theorem dksX5_move_4 : cX5_move.data.toList.drop 92 = dktX5_move_4 := dk_seg dksX5_move_3 23 rfl rfl
theorem dksX5_move_5 : cX5_move.data.toList.drop 116 = dktX5_move_5 := dk_seg dksX5_move_4 24 rfl rfl
theorem dksX5_move_6 : cX5_move.data.toList.drop 140 = dktX5_move_6 := dk_seg dksX5_move_5 24 rfl rfl
theorem dksX5_move_7 : cX5_move.data.toList.drop 163 = dktX5_move_7 := dk_seg dksX5_move_6 23 rfl rfl
theorem dksX5_move_8 : cX5_move.data.toList.drop 187 = dktX5_move_8 := dk_seg dksX5_move_7 24 rfl rfl
theorem dX5_move_0 : decode cX5_move 0 = .ok (.aload_n 0, 1) := dk_42 (dk_at dksX5_move_0 0 rfl rfl)
theorem dX5_move_1 : decode cX5_move 1 = .ok (.bipush 116, 2) := dk_16 116 (dk_at dksX5_move_0 1 rfl rfl)
theorem dX5_move_3 : decode cX5_move 3 = .ok (.bipush 116, 2) := dk_16 116 (dk_at dksX5_move_0 3 rfl rfl)
theorem dX5_move_5 : decode cX5_move 5 = .ok (.invokevirtual 174, 3) := dk_182 0 174 (dk_at dksX5_move_0 5 rfl rfl)
theorem dX5_move_8 : decode cX5_move 8 = .ok (.ifCond .eq 42, 3) := dk_153 0 42 (dk_at dksX5_move_0 8 rfl rfl)
theorem dX5_move_11 : decode cX5_move 11 = .ok (.aload_n 0, 1) := dk_42 (dk_at dksX5_move_0 11 rfl rfl)
theorem dX5_move_12 : decode cX5_move 12 = .ok (.dup, 1) := dk_89 (dk_at dksX5_move_0 12 rfl rfl)
theorem dX5_move_13 : decode cX5_move 13 = .ok (.getfield 171, 3) := dk_180 0 171 (dk_at dksX5_move_0 13 rfl rfl)
theorem dX5_move_16 : decode cX5_move 16 = .ok (.iconst 1, 1) := dk_4 (dk_at dksX5_move_0 16 rfl rfl)
theorem dX5_move_17 : decode cX5_move 17 = .ok (.iadd, 1) := dk_96 (dk_at dksX5_move_0 17 rfl rfl)
theorem dX5_move_18 : decode cX5_move 18 = .ok (.putfield 171, 3) := dk_181 0 171 (dk_at dksX5_move_0 18 rfl rfl)
theorem dX5_move_21 : decode cX5_move 21 = .ok (.aload_n 0, 1) := dk_42 (dk_at dksX5_move_0 21 rfl rfl)
theorem dX5_move_22 : decode cX5_move 22 = .ok (.iconst 1, 1) := dk_4 (dk_at dksX5_move_0 22 rfl rfl)
theorem dX5_move_23 : decode cX5_move 23 = .ok (.invokevirtual 178, 3) := dk_182 0 178 (dk_at dksX5_move_1 0 rfl rfl)
theorem dX5_move_26 : decode cX5_move 26 = .ok (.istore_n 2, 1) := dk_61 (dk_at dksX5_move_1 3 rfl rfl)
theorem dX5_move_27 : decode cX5_move 27 = .ok (.iload_n 2, 1) := dk_28 (dk_at dksX5_move_1 4 rfl rfl)
theorem dX5_move_28 : decode cX5_move 28 = .ok (.ifCond .ge 8, 3) := dk_156 0 8 (dk_at dksX5_move_1 5 rfl rfl)
theorem dX5_move_31 : decode cX5_move 31 = .ok (.bipush (-100), 2) := dk_16 156 (dk_at dksX5_move_1 8 rfl rfl)
theorem dX5_move_33 : decode cX5_move 33 = .ok (.goto 16, 3) := dk_167 0 16 (dk_at dksX5_move_1 10 rfl rfl)
theorem dX5_move_36 : decode cX5_move 36 = .ok (.iload_n 1, 1) := dk_27 (dk_at dksX5_move_1 13 rfl rfl)
theorem dX5_move_37 : decode cX5_move 37 = .ok (.ifCond .eq 11, 3) := dk_153 0 11 (dk_at dksX5_move_1 14 rfl rfl)
theorem dX5_move_40 : decode cX5_move 40 = .ok (.aload_n 0, 1) := dk_42 (dk_at dksX5_move_1 17 rfl rfl)
theorem dX5_move_41 : decode cX5_move 41 = .ok (.iload_n 2, 1) := dk_28 (dk_at dksX5_move_1 18 rfl rfl)
theorem dX5_move_42 : decode cX5_move 42 = .ok (.invokevirtual 162, 3) := dk_182 0 162 (dk_at dksX5_move_1 19 rfl rfl)
theorem dX5_move_45 : decode cX5_move 45 = .ok (.goto 4, 3) := dk_167 0 4 (dk_at dksX5_move_2 0 rfl rfl)
theorem dX5_move_48 : decode cX5_move 48 = .ok (.iconst 0, 1) := dk_3 (dk_at dksX5_move_2 3 rfl rfl)
theorem dX5_move_49 : decode cX5_move 49 = .ok (.ireturn, 1) := dk_172 (dk_at dksX5_move_2 4 rfl rfl)
theorem dX5_move_50 : decode cX5_move 50 = .ok (.aload_n 0, 1) := dk_42 (dk_at dksX5_move_2 5 rfl rfl)
theorem dX5_move_51 : decode cX5_move 51 = .ok (.bipush 48, 2) := dk_16 48 (dk_at dksX5_move_2 6 rfl rfl)
theorem dX5_move_53 : decode cX5_move 53 = .ok (.bipush 49, 2) := dk_16 49 (dk_at dksX5_move_2 8 rfl rfl)
theorem dX5_move_55 : decode cX5_move 55 = .ok (.invokevirtual 174, 3) := dk_182 0 174 (dk_at dksX5_move_2 10 rfl rfl)
theorem dX5_move_58 : decode cX5_move 58 = .ok (.ifCond .ne 6, 3) := dk_154 0 6 (dk_at dksX5_move_2 13 rfl rfl)
theorem dX5_move_61 : decode cX5_move 61 = .ok (.bipush (-100), 2) := dk_16 156 (dk_at dksX5_move_2 16 rfl rfl)
theorem dX5_move_63 : decode cX5_move 63 = .ok (.ireturn, 1) := dk_172 (dk_at dksX5_move_2 18 rfl rfl)
theorem dX5_move_64 : decode cX5_move 64 = .ok (.aload_n 0, 1) := dk_42 (dk_at dksX5_move_2 19 rfl rfl)
theorem dX5_move_65 : decode cX5_move 65 = .ok (.getfield 35, 3) := dk_180 0 35 (dk_at dksX5_move_2 20 rfl rfl)
theorem dX5_move_68 : decode cX5_move 68 = .ok (.aload_n 0, 1) := dk_42 (dk_at dksX5_move_2 23 rfl rfl)
theorem dX5_move_69 : decode cX5_move 69 = .ok (.getfield 171, 3) := dk_180 0 171 (dk_at dksX5_move_3 0 rfl rfl)
theorem dX5_move_72 : decode cX5_move 72 = .ok (.caload, 1) := dk_52 (dk_at dksX5_move_3 3 rfl rfl)
theorem dX5_move_73 : decode cX5_move 73 = .ok (.bipush 48, 2) := dk_16 48 (dk_at dksX5_move_3 4 rfl rfl)
theorem dX5_move_75 : decode cX5_move 75 = .ok (.isub, 1) := dk_100 (dk_at dksX5_move_3 6 rfl rfl)
theorem dX5_move_76 : decode cX5_move 76 = .ok (.istore_n 2, 1) := dk_61 (dk_at dksX5_move_3 7 rfl rfl)
theorem dX5_move_77 : decode cX5_move 77 = .ok (.aload_n 0, 1) := dk_42 (dk_at dksX5_move_3 8 rfl rfl)
theorem dX5_move_78 : decode cX5_move 78 = .ok (.dup, 1) := dk_89 (dk_at dksX5_move_3 9 rfl rfl)
theorem dX5_move_79 : decode cX5_move 79 = .ok (.getfield 171, 3) := dk_180 0 171 (dk_at dksX5_move_3 10 rfl rfl)
theorem dX5_move_82 : decode cX5_move 82 = .ok (.iconst 1, 1) := dk_4 (dk_at dksX5_move_3 13 rfl rfl)
theorem dX5_move_83 : decode cX5_move 83 = .ok (.iadd, 1) := dk_96 (dk_at dksX5_move_3 14 rfl rfl)
theorem dX5_move_84 : decode cX5_move 84 = .ok (.putfield 171, 3) := dk_181 0 171 (dk_at dksX5_move_3 15 rfl rfl)
theorem dX5_move_87 : decode cX5_move 87 = .ok (.aload_n 0, 1) := dk_42 (dk_at dksX5_move_3 18 rfl rfl)
theorem dX5_move_88 : decode cX5_move 88 = .ok (.bipush 100, 2) := dk_16 100 (dk_at dksX5_move_3 19 rfl rfl)
theorem dX5_move_90 : decode cX5_move 90 = .ok (.bipush 100, 2) := dk_16 100 (dk_at dksX5_move_3 21 rfl rfl)
theorem dX5_move_92 : decode cX5_move 92 = .ok (.invokevirtual 174, 3) := dk_182 0 174 (dk_at dksX5_move_4 0 rfl rfl)
theorem dX5_move_95 : decode cX5_move 95 = .ok (.istore_n 3, 1) := dk_62 (dk_at dksX5_move_4 3 rfl rfl)
theorem dX5_move_96 : decode cX5_move 96 = .ok (.iload_n 3, 1) := dk_29 (dk_at dksX5_move_4 4 rfl rfl)
theorem dX5_move_97 : decode cX5_move 97 = .ok (.ifCond .ne 17, 3) := dk_154 0 17 (dk_at dksX5_move_4 5 rfl rfl)
theorem dX5_move_100 : decode cX5_move 100 = .ok (.aload_n 0, 1) := dk_42 (dk_at dksX5_move_4 8 rfl rfl)
theorem dX5_move_101 : decode cX5_move 101 = .ok (.bipush 117, 2) := dk_16 117 (dk_at dksX5_move_4 9 rfl rfl)
theorem dX5_move_103 : decode cX5_move 103 = .ok (.bipush 117, 2) := dk_16 117 (dk_at dksX5_move_4 11 rfl rfl)
theorem dX5_move_105 : decode cX5_move 105 = .ok (.invokevirtual 174, 3) := dk_182 0 174 (dk_at dksX5_move_4 13 rfl rfl)
theorem dX5_move_108 : decode cX5_move 108 = .ok (.ifCond .ne 6, 3) := dk_154 0 6 (dk_at dksX5_move_4 16 rfl rfl)
theorem dX5_move_111 : decode cX5_move 111 = .ok (.bipush (-100), 2) := dk_16 156 (dk_at dksX5_move_4 19 rfl rfl)
theorem dX5_move_113 : decode cX5_move 113 = .ok (.ireturn, 1) := dk_172 (dk_at dksX5_move_4 21 rfl rfl)
theorem dX5_move_114 : decode cX5_move 114 = .ok (.aload_n 0, 1) := dk_42 (dk_at dksX5_move_4 22 rfl rfl)
theorem dX5_move_115 : decode cX5_move 115 = .ok (.dup, 1) := dk_89 (dk_at dksX5_move_4 23 rfl rfl)
theorem dX5_move_116 : decode cX5_move 116 = .ok (.getfield 171, 3) := dk_180 0 171 (dk_at dksX5_move_5 0 rfl rfl)
theorem dX5_move_119 : decode cX5_move 119 = .ok (.iconst 1, 1) := dk_4 (dk_at dksX5_move_5 3 rfl rfl)
theorem dX5_move_120 : decode cX5_move 120 = .ok (.iadd, 1) := dk_96 (dk_at dksX5_move_5 4 rfl rfl)
theorem dX5_move_121 : decode cX5_move 121 = .ok (.putfield 171, 3) := dk_181 0 171 (dk_at dksX5_move_5 5 rfl rfl)
theorem dX5_move_124 : decode cX5_move 124 = .ok (.aload_n 0, 1) := dk_42 (dk_at dksX5_move_5 8 rfl rfl)
theorem dX5_move_125 : decode cX5_move 125 = .ok (.iconst 0, 1) := dk_3 (dk_at dksX5_move_5 9 rfl rfl)
theorem dX5_move_126 : decode cX5_move 126 = .ok (.invokevirtual 178, 3) := dk_182 0 178 (dk_at dksX5_move_5 10 rfl rfl)
theorem dX5_move_129 : decode cX5_move 129 = .ok (.istore 4, 2) := dk_54 4 (dk_at dksX5_move_5 13 rfl rfl)
theorem dX5_move_131 : decode cX5_move 131 = .ok (.iload 4, 2) := dk_21 4 (dk_at dksX5_move_5 15 rfl rfl)
theorem dX5_move_133 : decode cX5_move 133 = .ok (.ifCond .ge 6, 3) := dk_156 0 6 (dk_at dksX5_move_5 17 rfl rfl)
theorem dX5_move_136 : decode cX5_move 136 = .ok (.bipush (-100), 2) := dk_16 156 (dk_at dksX5_move_5 20 rfl rfl)
theorem dX5_move_138 : decode cX5_move 138 = .ok (.ireturn, 1) := dk_172 (dk_at dksX5_move_5 22 rfl rfl)
theorem dX5_move_139 : decode cX5_move 139 = .ok (.iload_n 1, 1) := dk_27 (dk_at dksX5_move_5 23 rfl rfl)
theorem dX5_move_140 : decode cX5_move 140 = .ok (.ifCond .ne 5, 3) := dk_154 0 5 (dk_at dksX5_move_6 0 rfl rfl)
theorem dX5_move_143 : decode cX5_move 143 = .ok (.iconst 0, 1) := dk_3 (dk_at dksX5_move_6 3 rfl rfl)
theorem dX5_move_144 : decode cX5_move 144 = .ok (.ireturn, 1) := dk_172 (dk_at dksX5_move_6 4 rfl rfl)
theorem dX5_move_145 : decode cX5_move 145 = .ok (.iload_n 3, 1) := dk_29 (dk_at dksX5_move_6 5 rfl rfl)
theorem dX5_move_146 : decode cX5_move 146 = .ok (.ifCond .eq 13, 3) := dk_153 0 13 (dk_at dksX5_move_6 6 rfl rfl)
theorem dX5_move_149 : decode cX5_move 149 = .ok (.aload_n 0, 1) := dk_42 (dk_at dksX5_move_6 9 rfl rfl)
theorem dX5_move_150 : decode cX5_move 150 = .ok (.iload_n 2, 1) := dk_28 (dk_at dksX5_move_6 10 rfl rfl)
theorem dX5_move_151 : decode cX5_move 151 = .ok (.iload 4, 2) := dk_21 4 (dk_at dksX5_move_6 11 rfl rfl)
theorem dX5_move_153 : decode cX5_move 153 = .ok (.invokevirtual 153, 3) := dk_182 0 153 (dk_at dksX5_move_6 13 rfl rfl)
theorem dX5_move_156 : decode cX5_move 156 = .ok (.goto 10, 3) := dk_167 0 10 (dk_at dksX5_move_6 16 rfl rfl)
theorem dX5_move_159 : decode cX5_move 159 = .ok (.aload_n 0, 1) := dk_42 (dk_at dksX5_move_6 19 rfl rfl)
theorem dX5_move_160 : decode cX5_move 160 = .ok (.iload_n 2, 1) := dk_28 (dk_at dksX5_move_6 20 rfl rfl)
theorem dX5_move_161 : decode cX5_move 161 = .ok (.iload 4, 2) := dk_21 4 (dk_at dksX5_move_6 21 rfl rfl)
theorem dX5_move_163 : decode cX5_move 163 = .ok (.invokevirtual 156, 3) := dk_182 0 156 (dk_at dksX5_move_7 0 rfl rfl)
theorem dX5_move_166 : decode cX5_move 166 = .ok (.istore 5, 2) := dk_54 5 (dk_at dksX5_move_7 3 rfl rfl)
theorem dX5_move_168 : decode cX5_move 168 = .ok (.iload 5, 2) := dk_21 5 (dk_at dksX5_move_7 5 rfl rfl)
theorem dX5_move_170 : decode cX5_move 170 = .ok (.ifCond .ne 23, 3) := dk_154 0 23 (dk_at dksX5_move_7 7 rfl rfl)
theorem dX5_move_173 : decode cX5_move 173 = .ok (.aload_n 0, 1) := dk_42 (dk_at dksX5_move_7 10 rfl rfl)
theorem dX5_move_174 : decode cX5_move 174 = .ok (.getfield 7, 3) := dk_180 0 7 (dk_at dksX5_move_7 11 rfl rfl)
theorem dX5_move_177 : decode cX5_move 177 = .ok (.bipush 20, 2) := dk_16 20 (dk_at dksX5_move_7 14 rfl rfl)
theorem dX5_move_179 : decode cX5_move 179 = .ok (.iload 4, 2) := dk_21 4 (dk_at dksX5_move_7 16 rfl rfl)
theorem dX5_move_181 : decode cX5_move 181 = .ok (.iadd, 1) := dk_96 (dk_at dksX5_move_7 18 rfl rfl)
theorem dX5_move_182 : decode cX5_move 182 = .ok (.iload_n 3, 1) := dk_29 (dk_at dksX5_move_7 19 rfl rfl)
theorem dX5_move_183 : decode cX5_move 183 = .ok (.ifCond .eq 7, 3) := dk_153 0 7 (dk_at dksX5_move_7 20 rfl rfl)
theorem dX5_move_186 : decode cX5_move 186 = .ok (.iload_n 2, 1) := dk_28 (dk_at dksX5_move_7 23 rfl rfl)
theorem dX5_move_187 : decode cX5_move 187 = .ok (.goto 5, 3) := dk_167 0 5 (dk_at dksX5_move_8 0 rfl rfl)
theorem dX5_move_190 : decode cX5_move 190 = .ok (.bipush (-5), 2) := dk_16 251 (dk_at dksX5_move_8 3 rfl rfl)
theorem dX5_move_192 : decode cX5_move 192 = .ok (.iastore, 1) := dk_79 (dk_at dksX5_move_8 5 rfl rfl)
theorem dX5_move_193 : decode cX5_move 193 = .ok (.iload 5, 2) := dk_21 5 (dk_at dksX5_move_8 6 rfl rfl)
theorem dX5_move_195 : decode cX5_move 195 = .ok (.ireturn, 1) := dk_172 (dk_at dksX5_move_8 8 rfl rfl)
abbrev cX5_sees : ByteArray := prog_11_method_47_code
def yX5_sees : MethodName := ⟨RX5, "sees", "(II)Z"⟩
def dkwX5_sees_1 : List UInt8 := [184, 0, 68, 153, 0, 7, 4, 167, 0, 4, 3, 172]
abbrev dktX5_sees_1 : List UInt8 := dkwX5_sees_1 ++ []
def dkwX5_sees_0 : List UInt8 := [42, 180, 0, 171, 42, 180, 0, 168, 162, 0, 24, 42, 180, 0, 35, 42, 180, 0, 171, 52, 27, 28]
abbrev dktX5_sees_0 : List UInt8 := dkwX5_sees_0 ++ dktX5_sees_1
theorem dksX5_sees_0 : cX5_sees.data.toList.drop 0 = dktX5_sees_0 := by decide +kernel
theorem dksX5_sees_1 : cX5_sees.data.toList.drop 22 = dktX5_sees_1 := dk_seg dksX5_sees_0 22 rfl rfl
theorem dX5_sees_0 : decode cX5_sees 0 = .ok (.aload_n 0, 1) := dk_42 (dk_at dksX5_sees_0 0 rfl rfl)
theorem dX5_sees_1 : decode cX5_sees 1 = .ok (.getfield 171, 3) := dk_180 0 171 (dk_at dksX5_sees_0 1 rfl rfl)
theorem dX5_sees_4 : decode cX5_sees 4 = .ok (.aload_n 0, 1) := dk_42 (dk_at dksX5_sees_0 4 rfl rfl)
theorem dX5_sees_5 : decode cX5_sees 5 = .ok (.getfield 168, 3) := dk_180 0 168 (dk_at dksX5_sees_0 5 rfl rfl)
theorem dX5_sees_8 : decode cX5_sees 8 = .ok (.if_icmp .ge 24, 3) := dk_162 0 24 (dk_at dksX5_sees_0 8 rfl rfl)
theorem dX5_sees_11 : decode cX5_sees 11 = .ok (.aload_n 0, 1) := dk_42 (dk_at dksX5_sees_0 11 rfl rfl)
theorem dX5_sees_12 : decode cX5_sees 12 = .ok (.getfield 35, 3) := dk_180 0 35 (dk_at dksX5_sees_0 12 rfl rfl)
theorem dX5_sees_15 : decode cX5_sees 15 = .ok (.aload_n 0, 1) := dk_42 (dk_at dksX5_sees_0 15 rfl rfl)
theorem dX5_sees_16 : decode cX5_sees 16 = .ok (.getfield 171, 3) := dk_180 0 171 (dk_at dksX5_sees_0 16 rfl rfl)
theorem dX5_sees_19 : decode cX5_sees 19 = .ok (.caload, 1) := dk_52 (dk_at dksX5_sees_0 19 rfl rfl)
theorem dX5_sees_20 : decode cX5_sees 20 = .ok (.iload_n 1, 1) := dk_27 (dk_at dksX5_sees_0 20 rfl rfl)
theorem dX5_sees_21 : decode cX5_sees 21 = .ok (.iload_n 2, 1) := dk_28 (dk_at dksX5_sees_0 21 rfl rfl)
theorem dX5_sees_22 : decode cX5_sees 22 = .ok (.invokestatic 68, 3) := dk_184 0 68 (dk_at dksX5_sees_1 0 rfl rfl)
theorem dX5_sees_25 : decode cX5_sees 25 = .ok (.ifCond .eq 7, 3) := dk_153 0 7 (dk_at dksX5_sees_1 3 rfl rfl)
theorem dX5_sees_28 : decode cX5_sees 28 = .ok (.iconst 1, 1) := dk_4 (dk_at dksX5_sees_1 6 rfl rfl)
theorem dX5_sees_29 : decode cX5_sees 29 = .ok (.goto 4, 3) := dk_167 0 4 (dk_at dksX5_sees_1 7 rfl rfl)
theorem dX5_sees_32 : decode cX5_sees 32 = .ok (.iconst 0, 1) := dk_3 (dk_at dksX5_sees_1 10 rfl rfl)
theorem dX5_sees_33 : decode cX5_sees 33 = .ok (.ireturn, 1) := dk_172 (dk_at dksX5_sees_1 11 rfl rfl)
abbrev cX5_readsNumber : ByteArray := prog_11_method_48_code
def yX5_readsNumber : MethodName := ⟨RX5, "readsNumber", "(I)I"⟩
def dkwX5_readsNumber_3 : List UInt8 := [42, 89, 180, 0, 171, 4, 96, 181, 0, 171, 28, 172]
abbrev dktX5_readsNumber_3 : List UInt8 := dkwX5_readsNumber_3 ++ []
def dkwX5_readsNumber_2 : List UInt8 := [182, 0, 174, 153, 0, 31, 16, 10, 28, 104, 42, 180, 0, 35, 42, 180, 0, 171, 52, 96, 16, 48, 100, 61]
abbrev dktX5_readsNumber_2 : List UInt8 := dkwX5_readsNumber_2 ++ dktX5_readsNumber_3
def dkwX5_readsNumber_1 : List UInt8 := [16, 48, 100, 61, 42, 89, 180, 0, 171, 4, 96, 181, 0, 171, 28, 158, 0, 42, 42, 16, 48, 16, 57]
abbrev dktX5_readsNumber_1 : List UInt8 := dkwX5_readsNumber_1 ++ dktX5_readsNumber_2
def dkwX5_readsNumber_0 : List UInt8 := [42, 16, 48, 27, 96, 16, 57, 182, 0, 174, 154, 0, 5, 2, 172, 42, 180, 0, 35, 42, 180, 0, 171, 52]
abbrev dktX5_readsNumber_0 : List UInt8 := dkwX5_readsNumber_0 ++ dktX5_readsNumber_1
theorem dksX5_readsNumber_0 : cX5_readsNumber.data.toList.drop 0 = dktX5_readsNumber_0 := by decide +kernel
theorem dksX5_readsNumber_1 : cX5_readsNumber.data.toList.drop 24 = dktX5_readsNumber_1 := dk_seg dksX5_readsNumber_0 24 rfl rfl
theorem dksX5_readsNumber_2 : cX5_readsNumber.data.toList.drop 47 = dktX5_readsNumber_2 := dk_seg dksX5_readsNumber_1 23 rfl rfl
theorem dksX5_readsNumber_3 : cX5_readsNumber.data.toList.drop 71 = dktX5_readsNumber_3 := dk_seg dksX5_readsNumber_2 24 rfl rfl
theorem dX5_readsNumber_0 : decode cX5_readsNumber 0 = .ok (.aload_n 0, 1) := dk_42 (dk_at dksX5_readsNumber_0 0 rfl rfl)
theorem dX5_readsNumber_1 : decode cX5_readsNumber 1 = .ok (.bipush 48, 2) := dk_16 48 (dk_at dksX5_readsNumber_0 1 rfl rfl)
theorem dX5_readsNumber_3 : decode cX5_readsNumber 3 = .ok (.iload_n 1, 1) := dk_27 (dk_at dksX5_readsNumber_0 3 rfl rfl)
theorem dX5_readsNumber_4 : decode cX5_readsNumber 4 = .ok (.iadd, 1) := dk_96 (dk_at dksX5_readsNumber_0 4 rfl rfl)
theorem dX5_readsNumber_5 : decode cX5_readsNumber 5 = .ok (.bipush 57, 2) := dk_16 57 (dk_at dksX5_readsNumber_0 5 rfl rfl)
theorem dX5_readsNumber_7 : decode cX5_readsNumber 7 = .ok (.invokevirtual 174, 3) := dk_182 0 174 (dk_at dksX5_readsNumber_0 7 rfl rfl)
theorem dX5_readsNumber_10 : decode cX5_readsNumber 10 = .ok (.ifCond .ne 5, 3) := dk_154 0 5 (dk_at dksX5_readsNumber_0 10 rfl rfl)
theorem dX5_readsNumber_13 : decode cX5_readsNumber 13 = .ok (.iconst (-1), 1) := dk_2 (dk_at dksX5_readsNumber_0 13 rfl rfl)
theorem dX5_readsNumber_14 : decode cX5_readsNumber 14 = .ok (.ireturn, 1) := dk_172 (dk_at dksX5_readsNumber_0 14 rfl rfl)
theorem dX5_readsNumber_15 : decode cX5_readsNumber 15 = .ok (.aload_n 0, 1) := dk_42 (dk_at dksX5_readsNumber_0 15 rfl rfl)
theorem dX5_readsNumber_16 : decode cX5_readsNumber 16 = .ok (.getfield 35, 3) := dk_180 0 35 (dk_at dksX5_readsNumber_0 16 rfl rfl)
theorem dX5_readsNumber_19 : decode cX5_readsNumber 19 = .ok (.aload_n 0, 1) := dk_42 (dk_at dksX5_readsNumber_0 19 rfl rfl)
theorem dX5_readsNumber_20 : decode cX5_readsNumber 20 = .ok (.getfield 171, 3) := dk_180 0 171 (dk_at dksX5_readsNumber_0 20 rfl rfl)
theorem dX5_readsNumber_23 : decode cX5_readsNumber 23 = .ok (.caload, 1) := dk_52 (dk_at dksX5_readsNumber_0 23 rfl rfl)
theorem dX5_readsNumber_24 : decode cX5_readsNumber 24 = .ok (.bipush 48, 2) := dk_16 48 (dk_at dksX5_readsNumber_1 0 rfl rfl)
theorem dX5_readsNumber_26 : decode cX5_readsNumber 26 = .ok (.isub, 1) := dk_100 (dk_at dksX5_readsNumber_1 2 rfl rfl)
theorem dX5_readsNumber_27 : decode cX5_readsNumber 27 = .ok (.istore_n 2, 1) := dk_61 (dk_at dksX5_readsNumber_1 3 rfl rfl)
theorem dX5_readsNumber_28 : decode cX5_readsNumber 28 = .ok (.aload_n 0, 1) := dk_42 (dk_at dksX5_readsNumber_1 4 rfl rfl)
theorem dX5_readsNumber_29 : decode cX5_readsNumber 29 = .ok (.dup, 1) := dk_89 (dk_at dksX5_readsNumber_1 5 rfl rfl)
theorem dX5_readsNumber_30 : decode cX5_readsNumber 30 = .ok (.getfield 171, 3) := dk_180 0 171 (dk_at dksX5_readsNumber_1 6 rfl rfl)
theorem dX5_readsNumber_33 : decode cX5_readsNumber 33 = .ok (.iconst 1, 1) := dk_4 (dk_at dksX5_readsNumber_1 9 rfl rfl)
theorem dX5_readsNumber_34 : decode cX5_readsNumber 34 = .ok (.iadd, 1) := dk_96 (dk_at dksX5_readsNumber_1 10 rfl rfl)
theorem dX5_readsNumber_35 : decode cX5_readsNumber 35 = .ok (.putfield 171, 3) := dk_181 0 171 (dk_at dksX5_readsNumber_1 11 rfl rfl)
theorem dX5_readsNumber_38 : decode cX5_readsNumber 38 = .ok (.iload_n 2, 1) := dk_28 (dk_at dksX5_readsNumber_1 14 rfl rfl)
theorem dX5_readsNumber_39 : decode cX5_readsNumber 39 = .ok (.ifCond .le 42, 3) := dk_158 0 42 (dk_at dksX5_readsNumber_1 15 rfl rfl)
theorem dX5_readsNumber_42 : decode cX5_readsNumber 42 = .ok (.aload_n 0, 1) := dk_42 (dk_at dksX5_readsNumber_1 18 rfl rfl)
theorem dX5_readsNumber_43 : decode cX5_readsNumber 43 = .ok (.bipush 48, 2) := dk_16 48 (dk_at dksX5_readsNumber_1 19 rfl rfl)
theorem dX5_readsNumber_45 : decode cX5_readsNumber 45 = .ok (.bipush 57, 2) := dk_16 57 (dk_at dksX5_readsNumber_1 21 rfl rfl)
theorem dX5_readsNumber_47 : decode cX5_readsNumber 47 = .ok (.invokevirtual 174, 3) := dk_182 0 174 (dk_at dksX5_readsNumber_2 0 rfl rfl)
theorem dX5_readsNumber_50 : decode cX5_readsNumber 50 = .ok (.ifCond .eq 31, 3) := dk_153 0 31 (dk_at dksX5_readsNumber_2 3 rfl rfl)
theorem dX5_readsNumber_53 : decode cX5_readsNumber 53 = .ok (.bipush 10, 2) := dk_16 10 (dk_at dksX5_readsNumber_2 6 rfl rfl)
theorem dX5_readsNumber_55 : decode cX5_readsNumber 55 = .ok (.iload_n 2, 1) := dk_28 (dk_at dksX5_readsNumber_2 8 rfl rfl)
theorem dX5_readsNumber_56 : decode cX5_readsNumber 56 = .ok (.imul, 1) := dk_104 (dk_at dksX5_readsNumber_2 9 rfl rfl)
theorem dX5_readsNumber_57 : decode cX5_readsNumber 57 = .ok (.aload_n 0, 1) := dk_42 (dk_at dksX5_readsNumber_2 10 rfl rfl)
theorem dX5_readsNumber_58 : decode cX5_readsNumber 58 = .ok (.getfield 35, 3) := dk_180 0 35 (dk_at dksX5_readsNumber_2 11 rfl rfl)
theorem dX5_readsNumber_61 : decode cX5_readsNumber 61 = .ok (.aload_n 0, 1) := dk_42 (dk_at dksX5_readsNumber_2 14 rfl rfl)
theorem dX5_readsNumber_62 : decode cX5_readsNumber 62 = .ok (.getfield 171, 3) := dk_180 0 171 (dk_at dksX5_readsNumber_2 15 rfl rfl)
theorem dX5_readsNumber_65 : decode cX5_readsNumber 65 = .ok (.caload, 1) := dk_52 (dk_at dksX5_readsNumber_2 18 rfl rfl)
theorem dX5_readsNumber_66 : decode cX5_readsNumber 66 = .ok (.iadd, 1) := dk_96 (dk_at dksX5_readsNumber_2 19 rfl rfl)
theorem dX5_readsNumber_67 : decode cX5_readsNumber 67 = .ok (.bipush 48, 2) := dk_16 48 (dk_at dksX5_readsNumber_2 20 rfl rfl)
theorem dX5_readsNumber_69 : decode cX5_readsNumber 69 = .ok (.isub, 1) := dk_100 (dk_at dksX5_readsNumber_2 22 rfl rfl)
theorem dX5_readsNumber_70 : decode cX5_readsNumber 70 = .ok (.istore_n 2, 1) := dk_61 (dk_at dksX5_readsNumber_2 23 rfl rfl)
theorem dX5_readsNumber_71 : decode cX5_readsNumber 71 = .ok (.aload_n 0, 1) := dk_42 (dk_at dksX5_readsNumber_3 0 rfl rfl)
theorem dX5_readsNumber_72 : decode cX5_readsNumber 72 = .ok (.dup, 1) := dk_89 (dk_at dksX5_readsNumber_3 1 rfl rfl)
theorem dX5_readsNumber_73 : decode cX5_readsNumber 73 = .ok (.getfield 171, 3) := dk_180 0 171 (dk_at dksX5_readsNumber_3 2 rfl rfl)
theorem dX5_readsNumber_76 : decode cX5_readsNumber 76 = .ok (.iconst 1, 1) := dk_4 (dk_at dksX5_readsNumber_3 5 rfl rfl)
theorem dX5_readsNumber_77 : decode cX5_readsNumber 77 = .ok (.iadd, 1) := dk_96 (dk_at dksX5_readsNumber_3 6 rfl rfl)
theorem dX5_readsNumber_78 : decode cX5_readsNumber 78 = .ok (.putfield 171, 3) := dk_181 0 171 (dk_at dksX5_readsNumber_3 7 rfl rfl)
theorem dX5_readsNumber_81 : decode cX5_readsNumber 81 = .ok (.iload_n 2, 1) := dk_28 (dk_at dksX5_readsNumber_3 10 rfl rfl)
theorem dX5_readsNumber_82 : decode cX5_readsNumber 82 = .ok (.ireturn, 1) := dk_172 (dk_at dksX5_readsNumber_3 11 rfl rfl)
abbrev cX5_goBack : ByteArray := prog_11_method_5_code
def yX5_goBack : MethodName := ⟨RX5, "goBack", "()V"⟩
def dkwX5_goBack_2 : List UInt8 := [132, 1, 1, 167, 255, 235, 177]
abbrev dktX5_goBack_2 : List UInt8 := dkwX5_goBack_2 ++ []
def dkwX5_goBack_1 : List UInt8 := [167, 255, 234, 3, 60, 27, 16, 7, 162, 0, 21, 42, 180, 0, 22, 27, 42, 180, 0, 32, 27, 48, 81]
abbrev dktX5_goBack_1 : List UInt8 := dkwX5_goBack_1 ++ dktX5_goBack_2
def dkwX5_goBack_0 : List UInt8 := [3, 60, 27, 17, 2, 80, 162, 0, 21, 42, 180, 0, 7, 27, 42, 180, 0, 19, 27, 46, 79, 132, 1, 1]
abbrev dktX5_goBack_0 : List UInt8 := dkwX5_goBack_0 ++ dktX5_goBack_1
theorem dksX5_goBack_0 : cX5_goBack.data.toList.drop 0 = dktX5_goBack_0 := by decide +kernel
theorem dksX5_goBack_1 : cX5_goBack.data.toList.drop 24 = dktX5_goBack_1 := dk_seg dksX5_goBack_0 24 rfl rfl
theorem dksX5_goBack_2 : cX5_goBack.data.toList.drop 47 = dktX5_goBack_2 := dk_seg dksX5_goBack_1 23 rfl rfl
theorem dX5_goBack_0 : decode cX5_goBack 0 = .ok (.iconst 0, 1) := dk_3 (dk_at dksX5_goBack_0 0 rfl rfl)
theorem dX5_goBack_1 : decode cX5_goBack 1 = .ok (.istore_n 1, 1) := dk_60 (dk_at dksX5_goBack_0 1 rfl rfl)
theorem dX5_goBack_2 : decode cX5_goBack 2 = .ok (.iload_n 1, 1) := dk_27 (dk_at dksX5_goBack_0 2 rfl rfl)
theorem dX5_goBack_3 : decode cX5_goBack 3 = .ok (.sipush 592, 3) := dk_17 2 80 (dk_at dksX5_goBack_0 3 rfl rfl)
theorem dX5_goBack_6 : decode cX5_goBack 6 = .ok (.if_icmp .ge 21, 3) := dk_162 0 21 (dk_at dksX5_goBack_0 6 rfl rfl)
theorem dX5_goBack_9 : decode cX5_goBack 9 = .ok (.aload_n 0, 1) := dk_42 (dk_at dksX5_goBack_0 9 rfl rfl)
theorem dX5_goBack_10 : decode cX5_goBack 10 = .ok (.getfield 7, 3) := dk_180 0 7 (dk_at dksX5_goBack_0 10 rfl rfl)
theorem dX5_goBack_13 : decode cX5_goBack 13 = .ok (.iload_n 1, 1) := dk_27 (dk_at dksX5_goBack_0 13 rfl rfl)
theorem dX5_goBack_14 : decode cX5_goBack 14 = .ok (.aload_n 0, 1) := dk_42 (dk_at dksX5_goBack_0 14 rfl rfl)
theorem dX5_goBack_15 : decode cX5_goBack 15 = .ok (.getfield 19, 3) := dk_180 0 19 (dk_at dksX5_goBack_0 15 rfl rfl)
theorem dX5_goBack_18 : decode cX5_goBack 18 = .ok (.iload_n 1, 1) := dk_27 (dk_at dksX5_goBack_0 18 rfl rfl)
theorem dX5_goBack_19 : decode cX5_goBack 19 = .ok (.iaload, 1) := dk_46 (dk_at dksX5_goBack_0 19 rfl rfl)
theorem dX5_goBack_20 : decode cX5_goBack 20 = .ok (.iastore, 1) := dk_79 (dk_at dksX5_goBack_0 20 rfl rfl)
theorem dX5_goBack_21 : decode cX5_goBack 21 = .ok (.iinc 1 1, 3) := dk_132 1 1 (dk_at dksX5_goBack_0 21 rfl rfl)
theorem dX5_goBack_24 : decode cX5_goBack 24 = .ok (.goto (-22), 3) := dk_167 255 234 (dk_at dksX5_goBack_1 0 rfl rfl)
theorem dX5_goBack_27 : decode cX5_goBack 27 = .ok (.iconst 0, 1) := dk_3 (dk_at dksX5_goBack_1 3 rfl rfl)
theorem dX5_goBack_28 : decode cX5_goBack 28 = .ok (.istore_n 1, 1) := dk_60 (dk_at dksX5_goBack_1 4 rfl rfl)
theorem dX5_goBack_29 : decode cX5_goBack 29 = .ok (.iload_n 1, 1) := dk_27 (dk_at dksX5_goBack_1 5 rfl rfl)
theorem dX5_goBack_30 : decode cX5_goBack 30 = .ok (.bipush 7, 2) := dk_16 7 (dk_at dksX5_goBack_1 6 rfl rfl)
theorem dX5_goBack_32 : decode cX5_goBack 32 = .ok (.if_icmp .ge 21, 3) := dk_162 0 21 (dk_at dksX5_goBack_1 8 rfl rfl)
theorem dX5_goBack_35 : decode cX5_goBack 35 = .ok (.aload_n 0, 1) := dk_42 (dk_at dksX5_goBack_1 11 rfl rfl)
theorem dX5_goBack_36 : decode cX5_goBack 36 = .ok (.getfield 22, 3) := dk_180 0 22 (dk_at dksX5_goBack_1 12 rfl rfl)
theorem dX5_goBack_39 : decode cX5_goBack 39 = .ok (.iload_n 1, 1) := dk_27 (dk_at dksX5_goBack_1 15 rfl rfl)
theorem dX5_goBack_40 : decode cX5_goBack 40 = .ok (.aload_n 0, 1) := dk_42 (dk_at dksX5_goBack_1 16 rfl rfl)
theorem dX5_goBack_41 : decode cX5_goBack 41 = .ok (.getfield 32, 3) := dk_180 0 32 (dk_at dksX5_goBack_1 17 rfl rfl)
theorem dX5_goBack_44 : decode cX5_goBack 44 = .ok (.iload_n 1, 1) := dk_27 (dk_at dksX5_goBack_1 20 rfl rfl)
theorem dX5_goBack_45 : decode cX5_goBack 45 = .ok (.faload, 1) := dk_48 (dk_at dksX5_goBack_1 21 rfl rfl)
theorem dX5_goBack_46 : decode cX5_goBack 46 = .ok (.fastore, 1) := dk_81 (dk_at dksX5_goBack_1 22 rfl rfl)
theorem dX5_goBack_47 : decode cX5_goBack 47 = .ok (.iinc 1 1, 3) := dk_132 1 1 (dk_at dksX5_goBack_2 0 rfl rfl)
theorem dX5_goBack_50 : decode cX5_goBack 50 = .ok (.goto (-21), 3) := dk_167 255 235 (dk_at dksX5_goBack_2 3 rfl rfl)
theorem dX5_goBack_53 : decode cX5_goBack 53 = .ok (.return_, 1) := dk_177 (dk_at dksX5_goBack_2 6 rfl rfl)
abbrev cX5_key : ByteArray := prog_11_method_52_code
def yX5_key : MethodName := ⟨RX5, "key", "(II)I"⟩
def dkwX5_key_5 : List UInt8 := [172, 42, 27, 182, 0, 191, 153, 0, 7, 4, 167, 0, 4, 3, 172, 16, 254, 172]
abbrev dktX5_key_5 : List UInt8 := dkwX5_key_5 ++ []
def dkwX5_key_4 : List UInt8 := [27, 96, 46, 167, 0, 4, 3, 172, 42, 180, 0, 7, 17, 1, 4, 27, 96, 46, 172, 42, 27, 182, 0, 82]
abbrev dktX5_key_4 : List UInt8 := dkwX5_key_4 ++ dktX5_key_5
def dkwX5_key_3 : List UInt8 := [42, 180, 0, 7, 16, 68, 27, 96, 46, 172, 42, 27, 182, 0, 76, 153, 0, 15, 42, 180, 0, 7, 16, 116]
abbrev dktX5_key_3 : List UInt8 := dkwX5_key_3 ++ dktX5_key_4
def dkwX5_key_2 : List UInt8 := [42, 180, 0, 7, 16, 20, 27, 96, 46, 172, 42, 27, 182, 0, 76, 153, 0, 7, 4, 167, 0, 4, 3, 172]
abbrev dktX5_key_2 : List UInt8 := dkwX5_key_2 ++ dktX5_key_3
def dkwX5_key_1 : List UInt8 := [170, 0, 0, 0, 128, 0, 0, 0, 0, 0, 0, 0, 6, 0, 0, 0, 41, 0, 0, 0, 51, 0, 0, 0, 65, 0, 0, 0, 75, 0, 0, 0, 97, 0, 0, 0, 108, 0, 0, 0, 114]
abbrev dktX5_key_1 : List UInt8 := dkwX5_key_1 ++ dktX5_key_2
def dkwX5_key_0 : List UInt8 := [42, 27, 182, 0, 79, 153, 0, 5, 2, 172, 28]
abbrev dktX5_key_0 : List UInt8 := dkwX5_key_0 ++ dktX5_key_1
theorem dksX5_key_0 : cX5_key.data.toList.drop 0 = dktX5_key_0 := by decide +kernel
theorem dksX5_key_1 : cX5_key.data.toList.drop 11 = dktX5_key_1 := dk_seg dksX5_key_0 11 rfl rfl
theorem dksX5_key_2 : cX5_key.data.toList.drop 52 = dktX5_key_2 := dk_seg dksX5_key_1 41 rfl rfl
theorem dksX5_key_3 : cX5_key.data.toList.drop 76 = dktX5_key_3 := dk_seg dksX5_key_2 24 rfl rfl
theorem dksX5_key_4 : cX5_key.data.toList.drop 100 = dktX5_key_4 := dk_seg dksX5_key_3 24 rfl rfl
theorem dksX5_key_5 : cX5_key.data.toList.drop 124 = dktX5_key_5 := dk_seg dksX5_key_4 24 rfl rfl
theorem dX5_key_0 : decode cX5_key 0 = .ok (.aload_n 0, 1) := dk_42 (dk_at dksX5_key_0 0 rfl rfl)
theorem dX5_key_1 : decode cX5_key 1 = .ok (.iload_n 1, 1) := dk_27 (dk_at dksX5_key_0 1 rfl rfl)
theorem dX5_key_2 : decode cX5_key 2 = .ok (.invokevirtual 79, 3) := dk_182 0 79 (dk_at dksX5_key_0 2 rfl rfl)
theorem dX5_key_5 : decode cX5_key 5 = .ok (.ifCond .eq 5, 3) := dk_153 0 5 (dk_at dksX5_key_0 5 rfl rfl)
theorem dX5_key_8 : decode cX5_key 8 = .ok (.iconst (-1), 1) := dk_2 (dk_at dksX5_key_0 8 rfl rfl)
theorem dX5_key_9 : decode cX5_key 9 = .ok (.ireturn, 1) := dk_172 (dk_at dksX5_key_0 9 rfl rfl)
theorem dX5_key_10 : decode cX5_key 10 = .ok (.iload_n 2, 1) := dk_28 (dk_at dksX5_key_0 10 rfl rfl)
theorem dX5_key_11 : decode cX5_key 11 = .ok (.tableswitch 128 0 6 #[41, 51, 65, 75, 97, 108, 114], 41) := by decide +kernel
theorem dX5_key_52 : decode cX5_key 52 = .ok (.aload_n 0, 1) := dk_42 (dk_at dksX5_key_2 0 rfl rfl)
theorem dX5_key_53 : decode cX5_key 53 = .ok (.getfield 7, 3) := dk_180 0 7 (dk_at dksX5_key_2 1 rfl rfl)
theorem dX5_key_56 : decode cX5_key 56 = .ok (.bipush 20, 2) := dk_16 20 (dk_at dksX5_key_2 4 rfl rfl)
theorem dX5_key_58 : decode cX5_key 58 = .ok (.iload_n 1, 1) := dk_27 (dk_at dksX5_key_2 6 rfl rfl)
theorem dX5_key_59 : decode cX5_key 59 = .ok (.iadd, 1) := dk_96 (dk_at dksX5_key_2 7 rfl rfl)
theorem dX5_key_60 : decode cX5_key 60 = .ok (.iaload, 1) := dk_46 (dk_at dksX5_key_2 8 rfl rfl)
theorem dX5_key_61 : decode cX5_key 61 = .ok (.ireturn, 1) := dk_172 (dk_at dksX5_key_2 9 rfl rfl)
theorem dX5_key_62 : decode cX5_key 62 = .ok (.aload_n 0, 1) := dk_42 (dk_at dksX5_key_2 10 rfl rfl)
theorem dX5_key_63 : decode cX5_key 63 = .ok (.iload_n 1, 1) := dk_27 (dk_at dksX5_key_2 11 rfl rfl)
theorem dX5_key_64 : decode cX5_key 64 = .ok (.invokevirtual 76, 3) := dk_182 0 76 (dk_at dksX5_key_2 12 rfl rfl)
theorem dX5_key_67 : decode cX5_key 67 = .ok (.ifCond .eq 7, 3) := dk_153 0 7 (dk_at dksX5_key_2 15 rfl rfl)
theorem dX5_key_70 : decode cX5_key 70 = .ok (.iconst 1, 1) := dk_4 (dk_at dksX5_key_2 18 rfl rfl)
theorem dX5_key_71 : decode cX5_key 71 = .ok (.goto 4, 3) := dk_167 0 4 (dk_at dksX5_key_2 19 rfl rfl)
theorem dX5_key_74 : decode cX5_key 74 = .ok (.iconst 0, 1) := dk_3 (dk_at dksX5_key_2 22 rfl rfl)
theorem dX5_key_75 : decode cX5_key 75 = .ok (.ireturn, 1) := dk_172 (dk_at dksX5_key_2 23 rfl rfl)
theorem dX5_key_76 : decode cX5_key 76 = .ok (.aload_n 0, 1) := dk_42 (dk_at dksX5_key_3 0 rfl rfl)
theorem dX5_key_77 : decode cX5_key 77 = .ok (.getfield 7, 3) := dk_180 0 7 (dk_at dksX5_key_3 1 rfl rfl)
theorem dX5_key_80 : decode cX5_key 80 = .ok (.bipush 68, 2) := dk_16 68 (dk_at dksX5_key_3 4 rfl rfl)
theorem dX5_key_82 : decode cX5_key 82 = .ok (.iload_n 1, 1) := dk_27 (dk_at dksX5_key_3 6 rfl rfl)
theorem dX5_key_83 : decode cX5_key 83 = .ok (.iadd, 1) := dk_96 (dk_at dksX5_key_3 7 rfl rfl)
theorem dX5_key_84 : decode cX5_key 84 = .ok (.iaload, 1) := dk_46 (dk_at dksX5_key_3 8 rfl rfl)
theorem dX5_key_85 : decode cX5_key 85 = .ok (.ireturn, 1) := dk_172 (dk_at dksX5_key_3 9 rfl rfl)
theorem dX5_key_86 : decode cX5_key 86 = .ok (.aload_n 0, 1) := dk_42 (dk_at dksX5_key_3 10 rfl rfl)
theorem dX5_key_87 : decode cX5_key 87 = .ok (.iload_n 1, 1) := dk_27 (dk_at dksX5_key_3 11 rfl rfl)
theorem dX5_key_88 : decode cX5_key 88 = .ok (.invokevirtual 76, 3) := dk_182 0 76 (dk_at dksX5_key_3 12 rfl rfl)
theorem dX5_key_91 : decode cX5_key 91 = .ok (.ifCond .eq 15, 3) := dk_153 0 15 (dk_at dksX5_key_3 15 rfl rfl)
theorem dX5_key_94 : decode cX5_key 94 = .ok (.aload_n 0, 1) := dk_42 (dk_at dksX5_key_3 18 rfl rfl)
theorem dX5_key_95 : decode cX5_key 95 = .ok (.getfield 7, 3) := dk_180 0 7 (dk_at dksX5_key_3 19 rfl rfl)
theorem dX5_key_98 : decode cX5_key 98 = .ok (.bipush 116, 2) := dk_16 116 (dk_at dksX5_key_3 22 rfl rfl)
theorem dX5_key_100 : decode cX5_key 100 = .ok (.iload_n 1, 1) := dk_27 (dk_at dksX5_key_4 0 rfl rfl)
theorem dX5_key_101 : decode cX5_key 101 = .ok (.iadd, 1) := dk_96 (dk_at dksX5_key_4 1 rfl rfl)
theorem dX5_key_102 : decode cX5_key 102 = .ok (.iaload, 1) := dk_46 (dk_at dksX5_key_4 2 rfl rfl)
theorem dX5_key_103 : decode cX5_key 103 = .ok (.goto 4, 3) := dk_167 0 4 (dk_at dksX5_key_4 3 rfl rfl)
theorem dX5_key_106 : decode cX5_key 106 = .ok (.iconst 0, 1) := dk_3 (dk_at dksX5_key_4 6 rfl rfl)
theorem dX5_key_107 : decode cX5_key 107 = .ok (.ireturn, 1) := dk_172 (dk_at dksX5_key_4 7 rfl rfl)
theorem dX5_key_108 : decode cX5_key 108 = .ok (.aload_n 0, 1) := dk_42 (dk_at dksX5_key_4 8 rfl rfl)
theorem dX5_key_109 : decode cX5_key 109 = .ok (.getfield 7, 3) := dk_180 0 7 (dk_at dksX5_key_4 9 rfl rfl)
theorem dX5_key_112 : decode cX5_key 112 = .ok (.sipush 260, 3) := dk_17 1 4 (dk_at dksX5_key_4 12 rfl rfl)
theorem dX5_key_115 : decode cX5_key 115 = .ok (.iload_n 1, 1) := dk_27 (dk_at dksX5_key_4 15 rfl rfl)
theorem dX5_key_116 : decode cX5_key 116 = .ok (.iadd, 1) := dk_96 (dk_at dksX5_key_4 16 rfl rfl)
theorem dX5_key_117 : decode cX5_key 117 = .ok (.iaload, 1) := dk_46 (dk_at dksX5_key_4 17 rfl rfl)
theorem dX5_key_118 : decode cX5_key 118 = .ok (.ireturn, 1) := dk_172 (dk_at dksX5_key_4 18 rfl rfl)
theorem dX5_key_119 : decode cX5_key 119 = .ok (.aload_n 0, 1) := dk_42 (dk_at dksX5_key_4 19 rfl rfl)
theorem dX5_key_120 : decode cX5_key 120 = .ok (.iload_n 1, 1) := dk_27 (dk_at dksX5_key_4 20 rfl rfl)
theorem dX5_key_121 : decode cX5_key 121 = .ok (.invokevirtual 82, 3) := dk_182 0 82 (dk_at dksX5_key_4 21 rfl rfl)
theorem dX5_key_124 : decode cX5_key 124 = .ok (.ireturn, 1) := dk_172 (dk_at dksX5_key_5 0 rfl rfl)
theorem dX5_key_125 : decode cX5_key 125 = .ok (.aload_n 0, 1) := dk_42 (dk_at dksX5_key_5 1 rfl rfl)
theorem dX5_key_126 : decode cX5_key 126 = .ok (.iload_n 1, 1) := dk_27 (dk_at dksX5_key_5 2 rfl rfl)
theorem dX5_key_127 : decode cX5_key 127 = .ok (.invokevirtual 191, 3) := dk_182 0 191 (dk_at dksX5_key_5 3 rfl rfl)
theorem dX5_key_130 : decode cX5_key 130 = .ok (.ifCond .eq 7, 3) := dk_153 0 7 (dk_at dksX5_key_5 6 rfl rfl)
theorem dX5_key_133 : decode cX5_key 133 = .ok (.iconst 1, 1) := dk_4 (dk_at dksX5_key_5 9 rfl rfl)
theorem dX5_key_134 : decode cX5_key 134 = .ok (.goto 4, 3) := dk_167 0 4 (dk_at dksX5_key_5 10 rfl rfl)
theorem dX5_key_137 : decode cX5_key 137 = .ok (.iconst 0, 1) := dk_3 (dk_at dksX5_key_5 13 rfl rfl)
theorem dX5_key_138 : decode cX5_key 138 = .ok (.ireturn, 1) := dk_172 (dk_at dksX5_key_5 14 rfl rfl)
theorem dX5_key_139 : decode cX5_key 139 = .ok (.bipush (-2), 2) := dk_16 254 (dk_at dksX5_key_5 15 rfl rfl)
theorem dX5_key_141 : decode cX5_key 141 = .ok (.ireturn, 1) := dk_172 (dk_at dksX5_key_5 17 rfl rfl)
abbrev cX5_wouldSense : ByteArray := prog_11_method_23_code
def yX5_wouldSense : MethodName := ⟨RX5, "wouldSense", "(I)Z"⟩
def dkwX5_wouldSense_1 : List UInt8 := [122, 4, 126, 4, 160, 0, 7, 4, 167, 0, 4, 3, 172]
abbrev dktX5_wouldSense_1 : List UInt8 := dkwX5_wouldSense_1 ++ []
def dkwX5_wouldSense_0 : List UInt8 := [42, 27, 42, 180, 0, 7, 4, 46, 108, 182, 0, 107, 42, 180, 0, 104, 27, 42, 180, 0, 7, 4, 46, 112]
abbrev dktX5_wouldSense_0 : List UInt8 := dkwX5_wouldSense_0 ++ dktX5_wouldSense_1
theorem dksX5_wouldSense_0 : cX5_wouldSense.data.toList.drop 0 = dktX5_wouldSense_0 := by decide +kernel
theorem dksX5_wouldSense_1 : cX5_wouldSense.data.toList.drop 24 = dktX5_wouldSense_1 := dk_seg dksX5_wouldSense_0 24 rfl rfl
theorem dX5_wouldSense_0 : decode cX5_wouldSense 0 = .ok (.aload_n 0, 1) := dk_42 (dk_at dksX5_wouldSense_0 0 rfl rfl)
theorem dX5_wouldSense_1 : decode cX5_wouldSense 1 = .ok (.iload_n 1, 1) := dk_27 (dk_at dksX5_wouldSense_0 1 rfl rfl)
theorem dX5_wouldSense_2 : decode cX5_wouldSense 2 = .ok (.aload_n 0, 1) := dk_42 (dk_at dksX5_wouldSense_0 2 rfl rfl)
theorem dX5_wouldSense_3 : decode cX5_wouldSense 3 = .ok (.getfield 7, 3) := dk_180 0 7 (dk_at dksX5_wouldSense_0 3 rfl rfl)
theorem dX5_wouldSense_6 : decode cX5_wouldSense 6 = .ok (.iconst 1, 1) := dk_4 (dk_at dksX5_wouldSense_0 6 rfl rfl)
theorem dX5_wouldSense_7 : decode cX5_wouldSense 7 = .ok (.iaload, 1) := dk_46 (dk_at dksX5_wouldSense_0 7 rfl rfl)
theorem dX5_wouldSense_8 : decode cX5_wouldSense 8 = .ok (.idiv, 1) := dk_108 (dk_at dksX5_wouldSense_0 8 rfl rfl)
theorem dX5_wouldSense_9 : decode cX5_wouldSense 9 = .ok (.invokevirtual 107, 3) := dk_182 0 107 (dk_at dksX5_wouldSense_0 9 rfl rfl)
theorem dX5_wouldSense_12 : decode cX5_wouldSense 12 = .ok (.aload_n 0, 1) := dk_42 (dk_at dksX5_wouldSense_0 12 rfl rfl)
theorem dX5_wouldSense_13 : decode cX5_wouldSense 13 = .ok (.getfield 104, 3) := dk_180 0 104 (dk_at dksX5_wouldSense_0 13 rfl rfl)
theorem dX5_wouldSense_16 : decode cX5_wouldSense 16 = .ok (.iload_n 1, 1) := dk_27 (dk_at dksX5_wouldSense_0 16 rfl rfl)
theorem dX5_wouldSense_17 : decode cX5_wouldSense 17 = .ok (.aload_n 0, 1) := dk_42 (dk_at dksX5_wouldSense_0 17 rfl rfl)
theorem dX5_wouldSense_18 : decode cX5_wouldSense 18 = .ok (.getfield 7, 3) := dk_180 0 7 (dk_at dksX5_wouldSense_0 18 rfl rfl)
theorem dX5_wouldSense_21 : decode cX5_wouldSense 21 = .ok (.iconst 1, 1) := dk_4 (dk_at dksX5_wouldSense_0 21 rfl rfl)
theorem dX5_wouldSense_22 : decode cX5_wouldSense 22 = .ok (.iaload, 1) := dk_46 (dk_at dksX5_wouldSense_0 22 rfl rfl)
theorem dX5_wouldSense_23 : decode cX5_wouldSense 23 = .ok (.irem, 1) := dk_112 (dk_at dksX5_wouldSense_0 23 rfl rfl)
theorem dX5_wouldSense_24 : decode cX5_wouldSense 24 = .ok (.ishr, 1) := dk_122 (dk_at dksX5_wouldSense_1 0 rfl rfl)
theorem dX5_wouldSense_25 : decode cX5_wouldSense 25 = .ok (.iconst 1, 1) := dk_4 (dk_at dksX5_wouldSense_1 1 rfl rfl)
theorem dX5_wouldSense_26 : decode cX5_wouldSense 26 = .ok (.iand, 1) := dk_126 (dk_at dksX5_wouldSense_1 2 rfl rfl)
theorem dX5_wouldSense_27 : decode cX5_wouldSense 27 = .ok (.iconst 1, 1) := dk_4 (dk_at dksX5_wouldSense_1 3 rfl rfl)
theorem dX5_wouldSense_28 : decode cX5_wouldSense 28 = .ok (.if_icmp .ne 7, 3) := dk_160 0 7 (dk_at dksX5_wouldSense_1 4 rfl rfl)
theorem dX5_wouldSense_31 : decode cX5_wouldSense 31 = .ok (.iconst 1, 1) := dk_4 (dk_at dksX5_wouldSense_1 7 rfl rfl)
theorem dX5_wouldSense_32 : decode cX5_wouldSense 32 = .ok (.goto 4, 3) := dk_167 0 4 (dk_at dksX5_wouldSense_1 8 rfl rfl)
theorem dX5_wouldSense_35 : decode cX5_wouldSense 35 = .ok (.iconst 0, 1) := dk_3 (dk_at dksX5_wouldSense_1 11 rfl rfl)
theorem dX5_wouldSense_36 : decode cX5_wouldSense 36 = .ok (.ireturn, 1) := dk_172 (dk_at dksX5_wouldSense_1 12 rfl rfl)
abbrev cX5_typist : ByteArray := prog_11_method_53_code
def yX5_typist : MethodName := ⟨RX5, "typist", "(II)I"⟩
def dkwX5_typist_5 : List UInt8 := [180, 0, 7, 6, 27, 96, 46, 172, 16, 254, 172]
abbrev dktX5_typist_5 : List UInt8 := dkwX5_typist_5 ++ []
def dkwX5_typist_4 : List UInt8 := [172, 42, 180, 0, 7, 16, 12, 27, 96, 46, 172, 42, 180, 0, 7, 16, 17, 27, 96, 46, 172, 42]
abbrev dktX5_typist_4 : List UInt8 := dkwX5_typist_4 ++ dktX5_typist_5
def dkwX5_typist_3 : List UInt8 := [167, 0, 4, 3, 172, 42, 180, 0, 7, 16, 7, 27, 96, 46, 172, 42, 180, 0, 7, 16, 10, 27, 96, 46]
abbrev dktX5_typist_3 : List UInt8 := dkwX5_typist_3 ++ dktX5_typist_4
def dkwX5_typist_2 : List UInt8 := [42, 27, 182, 0, 150, 172, 42, 180, 0, 7, 8, 27, 96, 46, 172, 42, 27, 182, 0, 117, 153, 0, 7, 4]
abbrev dktX5_typist_2 : List UInt8 := dkwX5_typist_2 ++ dktX5_typist_3
def dkwX5_typist_1 : List UInt8 := [170, 0, 0, 0, 123, 0, 0, 0, 0, 0, 0, 0, 7, 0, 0, 0, 45, 0, 0, 0, 51, 0, 0, 0, 60, 0, 0, 0, 74, 0, 0, 0, 84, 0, 0, 0, 94, 0, 0, 0, 104, 0, 0, 0, 114]
abbrev dktX5_typist_1 : List UInt8 := dkwX5_typist_1 ++ dktX5_typist_2
def dkwX5_typist_0 : List UInt8 := [42, 27, 182, 0, 86, 153, 0, 5, 2, 172, 28]
abbrev dktX5_typist_0 : List UInt8 := dkwX5_typist_0 ++ dktX5_typist_1
theorem dksX5_typist_0 : cX5_typist.data.toList.drop 0 = dktX5_typist_0 := by decide +kernel
theorem dksX5_typist_1 : cX5_typist.data.toList.drop 11 = dktX5_typist_1 := dk_seg dksX5_typist_0 11 rfl rfl
theorem dksX5_typist_2 : cX5_typist.data.toList.drop 56 = dktX5_typist_2 := dk_seg dksX5_typist_1 45 rfl rfl
theorem dksX5_typist_3 : cX5_typist.data.toList.drop 80 = dktX5_typist_3 := dk_seg dksX5_typist_2 24 rfl rfl
theorem dksX5_typist_4 : cX5_typist.data.toList.drop 104 = dktX5_typist_4 := dk_seg dksX5_typist_3 24 rfl rfl
theorem dksX5_typist_5 : cX5_typist.data.toList.drop 126 = dktX5_typist_5 := dk_seg dksX5_typist_4 22 rfl rfl
theorem dX5_typist_0 : decode cX5_typist 0 = .ok (.aload_n 0, 1) := dk_42 (dk_at dksX5_typist_0 0 rfl rfl)
theorem dX5_typist_1 : decode cX5_typist 1 = .ok (.iload_n 1, 1) := dk_27 (dk_at dksX5_typist_0 1 rfl rfl)
theorem dX5_typist_2 : decode cX5_typist 2 = .ok (.invokevirtual 86, 3) := dk_182 0 86 (dk_at dksX5_typist_0 2 rfl rfl)
theorem dX5_typist_5 : decode cX5_typist 5 = .ok (.ifCond .eq 5, 3) := dk_153 0 5 (dk_at dksX5_typist_0 5 rfl rfl)
theorem dX5_typist_8 : decode cX5_typist 8 = .ok (.iconst (-1), 1) := dk_2 (dk_at dksX5_typist_0 8 rfl rfl)
theorem dX5_typist_9 : decode cX5_typist 9 = .ok (.ireturn, 1) := dk_172 (dk_at dksX5_typist_0 9 rfl rfl)
theorem dX5_typist_10 : decode cX5_typist 10 = .ok (.iload_n 2, 1) := dk_28 (dk_at dksX5_typist_0 10 rfl rfl)
theorem dX5_typist_11 : decode cX5_typist 11 = .ok (.tableswitch 123 0 7 #[45, 51, 60, 74, 84, 94, 104, 114], 45) := by decide +kernel
theorem dX5_typist_56 : decode cX5_typist 56 = .ok (.aload_n 0, 1) := dk_42 (dk_at dksX5_typist_2 0 rfl rfl)
theorem dX5_typist_57 : decode cX5_typist 57 = .ok (.iload_n 1, 1) := dk_27 (dk_at dksX5_typist_2 1 rfl rfl)
theorem dX5_typist_58 : decode cX5_typist 58 = .ok (.invokevirtual 150, 3) := dk_182 0 150 (dk_at dksX5_typist_2 2 rfl rfl)
theorem dX5_typist_61 : decode cX5_typist 61 = .ok (.ireturn, 1) := dk_172 (dk_at dksX5_typist_2 5 rfl rfl)
theorem dX5_typist_62 : decode cX5_typist 62 = .ok (.aload_n 0, 1) := dk_42 (dk_at dksX5_typist_2 6 rfl rfl)
theorem dX5_typist_63 : decode cX5_typist 63 = .ok (.getfield 7, 3) := dk_180 0 7 (dk_at dksX5_typist_2 7 rfl rfl)
theorem dX5_typist_66 : decode cX5_typist 66 = .ok (.iconst 5, 1) := dk_8 (dk_at dksX5_typist_2 10 rfl rfl)
theorem dX5_typist_67 : decode cX5_typist 67 = .ok (.iload_n 1, 1) := dk_27 (dk_at dksX5_typist_2 11 rfl rfl)
theorem dX5_typist_68 : decode cX5_typist 68 = .ok (.iadd, 1) := dk_96 (dk_at dksX5_typist_2 12 rfl rfl)
theorem dX5_typist_69 : decode cX5_typist 69 = .ok (.iaload, 1) := dk_46 (dk_at dksX5_typist_2 13 rfl rfl)
theorem dX5_typist_70 : decode cX5_typist 70 = .ok (.ireturn, 1) := dk_172 (dk_at dksX5_typist_2 14 rfl rfl)
theorem dX5_typist_71 : decode cX5_typist 71 = .ok (.aload_n 0, 1) := dk_42 (dk_at dksX5_typist_2 15 rfl rfl)
theorem dX5_typist_72 : decode cX5_typist 72 = .ok (.iload_n 1, 1) := dk_27 (dk_at dksX5_typist_2 16 rfl rfl)
theorem dX5_typist_73 : decode cX5_typist 73 = .ok (.invokevirtual 117, 3) := dk_182 0 117 (dk_at dksX5_typist_2 17 rfl rfl)
theorem dX5_typist_76 : decode cX5_typist 76 = .ok (.ifCond .eq 7, 3) := dk_153 0 7 (dk_at dksX5_typist_2 20 rfl rfl)
theorem dX5_typist_79 : decode cX5_typist 79 = .ok (.iconst 1, 1) := dk_4 (dk_at dksX5_typist_2 23 rfl rfl)
theorem dX5_typist_80 : decode cX5_typist 80 = .ok (.goto 4, 3) := dk_167 0 4 (dk_at dksX5_typist_3 0 rfl rfl)
theorem dX5_typist_83 : decode cX5_typist 83 = .ok (.iconst 0, 1) := dk_3 (dk_at dksX5_typist_3 3 rfl rfl)
theorem dX5_typist_84 : decode cX5_typist 84 = .ok (.ireturn, 1) := dk_172 (dk_at dksX5_typist_3 4 rfl rfl)
theorem dX5_typist_85 : decode cX5_typist 85 = .ok (.aload_n 0, 1) := dk_42 (dk_at dksX5_typist_3 5 rfl rfl)
theorem dX5_typist_86 : decode cX5_typist 86 = .ok (.getfield 7, 3) := dk_180 0 7 (dk_at dksX5_typist_3 6 rfl rfl)
theorem dX5_typist_89 : decode cX5_typist 89 = .ok (.bipush 7, 2) := dk_16 7 (dk_at dksX5_typist_3 9 rfl rfl)
theorem dX5_typist_91 : decode cX5_typist 91 = .ok (.iload_n 1, 1) := dk_27 (dk_at dksX5_typist_3 11 rfl rfl)
theorem dX5_typist_92 : decode cX5_typist 92 = .ok (.iadd, 1) := dk_96 (dk_at dksX5_typist_3 12 rfl rfl)
theorem dX5_typist_93 : decode cX5_typist 93 = .ok (.iaload, 1) := dk_46 (dk_at dksX5_typist_3 13 rfl rfl)
theorem dX5_typist_94 : decode cX5_typist 94 = .ok (.ireturn, 1) := dk_172 (dk_at dksX5_typist_3 14 rfl rfl)
theorem dX5_typist_95 : decode cX5_typist 95 = .ok (.aload_n 0, 1) := dk_42 (dk_at dksX5_typist_3 15 rfl rfl)
theorem dX5_typist_96 : decode cX5_typist 96 = .ok (.getfield 7, 3) := dk_180 0 7 (dk_at dksX5_typist_3 16 rfl rfl)
theorem dX5_typist_99 : decode cX5_typist 99 = .ok (.bipush 10, 2) := dk_16 10 (dk_at dksX5_typist_3 19 rfl rfl)
theorem dX5_typist_101 : decode cX5_typist 101 = .ok (.iload_n 1, 1) := dk_27 (dk_at dksX5_typist_3 21 rfl rfl)
theorem dX5_typist_102 : decode cX5_typist 102 = .ok (.iadd, 1) := dk_96 (dk_at dksX5_typist_3 22 rfl rfl)
theorem dX5_typist_103 : decode cX5_typist 103 = .ok (.iaload, 1) := dk_46 (dk_at dksX5_typist_3 23 rfl rfl)
theorem dX5_typist_104 : decode cX5_typist 104 = .ok (.ireturn, 1) := dk_172 (dk_at dksX5_typist_4 0 rfl rfl)
theorem dX5_typist_105 : decode cX5_typist 105 = .ok (.aload_n 0, 1) := dk_42 (dk_at dksX5_typist_4 1 rfl rfl)
theorem dX5_typist_106 : decode cX5_typist 106 = .ok (.getfield 7, 3) := dk_180 0 7 (dk_at dksX5_typist_4 2 rfl rfl)
theorem dX5_typist_109 : decode cX5_typist 109 = .ok (.bipush 12, 2) := dk_16 12 (dk_at dksX5_typist_4 5 rfl rfl)
theorem dX5_typist_111 : decode cX5_typist 111 = .ok (.iload_n 1, 1) := dk_27 (dk_at dksX5_typist_4 7 rfl rfl)
theorem dX5_typist_112 : decode cX5_typist 112 = .ok (.iadd, 1) := dk_96 (dk_at dksX5_typist_4 8 rfl rfl)
theorem dX5_typist_113 : decode cX5_typist 113 = .ok (.iaload, 1) := dk_46 (dk_at dksX5_typist_4 9 rfl rfl)
theorem dX5_typist_114 : decode cX5_typist 114 = .ok (.ireturn, 1) := dk_172 (dk_at dksX5_typist_4 10 rfl rfl)
theorem dX5_typist_115 : decode cX5_typist 115 = .ok (.aload_n 0, 1) := dk_42 (dk_at dksX5_typist_4 11 rfl rfl)
theorem dX5_typist_116 : decode cX5_typist 116 = .ok (.getfield 7, 3) := dk_180 0 7 (dk_at dksX5_typist_4 12 rfl rfl)
theorem dX5_typist_119 : decode cX5_typist 119 = .ok (.bipush 17, 2) := dk_16 17 (dk_at dksX5_typist_4 15 rfl rfl)
theorem dX5_typist_121 : decode cX5_typist 121 = .ok (.iload_n 1, 1) := dk_27 (dk_at dksX5_typist_4 17 rfl rfl)
theorem dX5_typist_122 : decode cX5_typist 122 = .ok (.iadd, 1) := dk_96 (dk_at dksX5_typist_4 18 rfl rfl)
theorem dX5_typist_123 : decode cX5_typist 123 = .ok (.iaload, 1) := dk_46 (dk_at dksX5_typist_4 19 rfl rfl)
theorem dX5_typist_124 : decode cX5_typist 124 = .ok (.ireturn, 1) := dk_172 (dk_at dksX5_typist_4 20 rfl rfl)
theorem dX5_typist_125 : decode cX5_typist 125 = .ok (.aload_n 0, 1) := dk_42 (dk_at dksX5_typist_4 21 rfl rfl)
theorem dX5_typist_126 : decode cX5_typist 126 = .ok (.getfield 7, 3) := dk_180 0 7 (dk_at dksX5_typist_5 0 rfl rfl)
theorem dX5_typist_129 : decode cX5_typist 129 = .ok (.iconst 3, 1) := dk_6 (dk_at dksX5_typist_5 3 rfl rfl)
theorem dX5_typist_130 : decode cX5_typist 130 = .ok (.iload_n 1, 1) := dk_27 (dk_at dksX5_typist_5 4 rfl rfl)
theorem dX5_typist_131 : decode cX5_typist 131 = .ok (.iadd, 1) := dk_96 (dk_at dksX5_typist_5 5 rfl rfl)
theorem dX5_typist_132 : decode cX5_typist 132 = .ok (.iaload, 1) := dk_46 (dk_at dksX5_typist_5 6 rfl rfl)
theorem dX5_typist_133 : decode cX5_typist 133 = .ok (.ireturn, 1) := dk_172 (dk_at dksX5_typist_5 7 rfl rfl)
theorem dX5_typist_134 : decode cX5_typist 134 = .ok (.bipush (-2), 2) := dk_16 254 (dk_at dksX5_typist_5 8 rfl rfl)
theorem dX5_typist_136 : decode cX5_typist 136 = .ok (.ireturn, 1) := dk_172 (dk_at dksX5_typist_5 10 rfl rfl)
abbrev cX5_style : ByteArray := prog_11_method_54_code
def yX5_style : MethodName := ⟨RX5, "style", "(II)F"⟩
def dkwX5_style_1 : List UInt8 := [180, 0, 22, 5, 28, 104, 27, 96, 48, 174]
abbrev dktX5_style_1 : List UInt8 := dkwX5_style_1 ++ []
def dkwX5_style_0 : List UInt8 := [42, 27, 182, 0, 86, 154, 0, 12, 28, 3, 4, 184, 0, 68, 154, 0, 8, 18, 194, 167, 0, 13, 42]
abbrev dktX5_style_0 : List UInt8 := dkwX5_style_0 ++ dktX5_style_1
theorem dksX5_style_0 : cX5_style.data.toList.drop 0 = dktX5_style_0 := by decide +kernel
theorem dksX5_style_1 : cX5_style.data.toList.drop 23 = dktX5_style_1 := dk_seg dksX5_style_0 23 rfl rfl
theorem dX5_style_0 : decode cX5_style 0 = .ok (.aload_n 0, 1) := dk_42 (dk_at dksX5_style_0 0 rfl rfl)
theorem dX5_style_1 : decode cX5_style 1 = .ok (.iload_n 1, 1) := dk_27 (dk_at dksX5_style_0 1 rfl rfl)
theorem dX5_style_2 : decode cX5_style 2 = .ok (.invokevirtual 86, 3) := dk_182 0 86 (dk_at dksX5_style_0 2 rfl rfl)
theorem dX5_style_5 : decode cX5_style 5 = .ok (.ifCond .ne 12, 3) := dk_154 0 12 (dk_at dksX5_style_0 5 rfl rfl)
theorem dX5_style_8 : decode cX5_style 8 = .ok (.iload_n 2, 1) := dk_28 (dk_at dksX5_style_0 8 rfl rfl)
theorem dX5_style_9 : decode cX5_style 9 = .ok (.iconst 0, 1) := dk_3 (dk_at dksX5_style_0 9 rfl rfl)
theorem dX5_style_10 : decode cX5_style 10 = .ok (.iconst 1, 1) := dk_4 (dk_at dksX5_style_0 10 rfl rfl)
theorem dX5_style_11 : decode cX5_style 11 = .ok (.invokestatic 68, 3) := dk_184 0 68 (dk_at dksX5_style_0 11 rfl rfl)
theorem dX5_style_14 : decode cX5_style 14 = .ok (.ifCond .ne 8, 3) := dk_154 0 8 (dk_at dksX5_style_0 14 rfl rfl)
theorem dX5_style_17 : decode cX5_style 17 = .ok (.ldc 194, 2) := dk_18 194 (dk_at dksX5_style_0 17 rfl rfl)
theorem dX5_style_19 : decode cX5_style 19 = .ok (.goto 13, 3) := dk_167 0 13 (dk_at dksX5_style_0 19 rfl rfl)
theorem dX5_style_22 : decode cX5_style 22 = .ok (.aload_n 0, 1) := dk_42 (dk_at dksX5_style_0 22 rfl rfl)
theorem dX5_style_23 : decode cX5_style 23 = .ok (.getfield 22, 3) := dk_180 0 22 (dk_at dksX5_style_1 0 rfl rfl)
theorem dX5_style_26 : decode cX5_style 26 = .ok (.iconst 2, 1) := dk_5 (dk_at dksX5_style_1 3 rfl rfl)
theorem dX5_style_27 : decode cX5_style 27 = .ok (.iload_n 2, 1) := dk_28 (dk_at dksX5_style_1 4 rfl rfl)
theorem dX5_style_28 : decode cX5_style 28 = .ok (.imul, 1) := dk_104 (dk_at dksX5_style_1 5 rfl rfl)
theorem dX5_style_29 : decode cX5_style 29 = .ok (.iload_n 1, 1) := dk_27 (dk_at dksX5_style_1 6 rfl rfl)
theorem dX5_style_30 : decode cX5_style 30 = .ok (.iadd, 1) := dk_96 (dk_at dksX5_style_1 7 rfl rfl)
theorem dX5_style_31 : decode cX5_style 31 = .ok (.faload, 1) := dk_48 (dk_at dksX5_style_1 8 rfl rfl)
theorem dX5_style_32 : decode cX5_style 32 = .ok (.freturn, 1) := dk_174 (dk_at dksX5_style_1 9 rfl rfl)
abbrev cX5_hundredths : ByteArray := prog_11_method_55_code
def yX5_hundredths : MethodName := ⟨RX5, "hundredths", "(II)I"⟩
def dkwX5_hundredths_1 : List UInt8 := [28, 104, 27, 96, 48, 18, 195, 106, 139, 167, 0, 5, 16, 254, 172]
abbrev dktX5_hundredths_1 : List UInt8 := dkwX5_hundredths_1 ++ []
def dkwX5_hundredths_0 : List UInt8 := [42, 27, 182, 0, 86, 153, 0, 5, 2, 172, 28, 3, 4, 184, 0, 68, 153, 0, 20, 42, 180, 0, 22, 5]
abbrev dktX5_hundredths_0 : List UInt8 := dkwX5_hundredths_0 ++ dktX5_hundredths_1
theorem dksX5_hundredths_0 : cX5_hundredths.data.toList.drop 0 = dktX5_hundredths_0 := by decide +kernel
theorem dksX5_hundredths_1 : cX5_hundredths.data.toList.drop 24 = dktX5_hundredths_1 := dk_seg dksX5_hundredths_0 24 rfl rfl
theorem dX5_hundredths_0 : decode cX5_hundredths 0 = .ok (.aload_n 0, 1) := dk_42 (dk_at dksX5_hundredths_0 0 rfl rfl)
theorem dX5_hundredths_1 : decode cX5_hundredths 1 = .ok (.iload_n 1, 1) := dk_27 (dk_at dksX5_hundredths_0 1 rfl rfl)
theorem dX5_hundredths_2 : decode cX5_hundredths 2 = .ok (.invokevirtual 86, 3) := dk_182 0 86 (dk_at dksX5_hundredths_0 2 rfl rfl)
theorem dX5_hundredths_5 : decode cX5_hundredths 5 = .ok (.ifCond .eq 5, 3) := dk_153 0 5 (dk_at dksX5_hundredths_0 5 rfl rfl)
theorem dX5_hundredths_8 : decode cX5_hundredths 8 = .ok (.iconst (-1), 1) := dk_2 (dk_at dksX5_hundredths_0 8 rfl rfl)
theorem dX5_hundredths_9 : decode cX5_hundredths 9 = .ok (.ireturn, 1) := dk_172 (dk_at dksX5_hundredths_0 9 rfl rfl)
theorem dX5_hundredths_10 : decode cX5_hundredths 10 = .ok (.iload_n 2, 1) := dk_28 (dk_at dksX5_hundredths_0 10 rfl rfl)
theorem dX5_hundredths_11 : decode cX5_hundredths 11 = .ok (.iconst 0, 1) := dk_3 (dk_at dksX5_hundredths_0 11 rfl rfl)
theorem dX5_hundredths_12 : decode cX5_hundredths 12 = .ok (.iconst 1, 1) := dk_4 (dk_at dksX5_hundredths_0 12 rfl rfl)
theorem dX5_hundredths_13 : decode cX5_hundredths 13 = .ok (.invokestatic 68, 3) := dk_184 0 68 (dk_at dksX5_hundredths_0 13 rfl rfl)
theorem dX5_hundredths_16 : decode cX5_hundredths 16 = .ok (.ifCond .eq 20, 3) := dk_153 0 20 (dk_at dksX5_hundredths_0 16 rfl rfl)
theorem dX5_hundredths_19 : decode cX5_hundredths 19 = .ok (.aload_n 0, 1) := dk_42 (dk_at dksX5_hundredths_0 19 rfl rfl)
theorem dX5_hundredths_20 : decode cX5_hundredths 20 = .ok (.getfield 22, 3) := dk_180 0 22 (dk_at dksX5_hundredths_0 20 rfl rfl)
theorem dX5_hundredths_23 : decode cX5_hundredths 23 = .ok (.iconst 2, 1) := dk_5 (dk_at dksX5_hundredths_0 23 rfl rfl)
theorem dX5_hundredths_24 : decode cX5_hundredths 24 = .ok (.iload_n 2, 1) := dk_28 (dk_at dksX5_hundredths_1 0 rfl rfl)
theorem dX5_hundredths_25 : decode cX5_hundredths 25 = .ok (.imul, 1) := dk_104 (dk_at dksX5_hundredths_1 1 rfl rfl)
theorem dX5_hundredths_26 : decode cX5_hundredths 26 = .ok (.iload_n 1, 1) := dk_27 (dk_at dksX5_hundredths_1 2 rfl rfl)
theorem dX5_hundredths_27 : decode cX5_hundredths 27 = .ok (.iadd, 1) := dk_96 (dk_at dksX5_hundredths_1 3 rfl rfl)
theorem dX5_hundredths_28 : decode cX5_hundredths 28 = .ok (.faload, 1) := dk_48 (dk_at dksX5_hundredths_1 4 rfl rfl)
theorem dX5_hundredths_29 : decode cX5_hundredths 29 = .ok (.ldc 195, 2) := dk_18 195 (dk_at dksX5_hundredths_1 5 rfl rfl)
theorem dX5_hundredths_31 : decode cX5_hundredths 31 = .ok (.fmul, 1) := dk_106 (dk_at dksX5_hundredths_1 7 rfl rfl)
theorem dX5_hundredths_32 : decode cX5_hundredths 32 = .ok (.f2i, 1) := dk_139 (dk_at dksX5_hundredths_1 8 rfl rfl)
theorem dX5_hundredths_33 : decode cX5_hundredths 33 = .ok (.goto 5, 3) := dk_167 0 5 (dk_at dksX5_hundredths_1 9 rfl rfl)
theorem dX5_hundredths_36 : decode cX5_hundredths 36 = .ok (.bipush (-2), 2) := dk_16 254 (dk_at dksX5_hundredths_1 12 rfl rfl)
theorem dX5_hundredths_38 : decode cX5_hundredths 38 = .ok (.ireturn, 1) := dk_172 (dk_at dksX5_hundredths_1 14 rfl rfl)
abbrev cX5_typed : ByteArray := prog_11_method_56_code
def yX5_typed : MethodName := ⟨RX5, "typed", "(II)I"⟩
def dkwX5_typed_2 : List UInt8 := [104, 96, 29, 4, 100, 28, 100, 16, 24, 112, 96, 46, 167, 0, 5, 16, 251, 172]
abbrev dktX5_typed_2 : List UInt8 := dkwX5_typed_2 ++ []
def dkwX5_typed_1 : List UInt8 := [96, 46, 62, 28, 29, 162, 0, 34, 28, 16, 24, 162, 0, 28, 42, 180, 0, 7, 17, 2, 32, 16, 24, 27]
abbrev dktX5_typed_1 : List UInt8 := dkwX5_typed_1 ++ dktX5_typed_2
def dkwX5_typed_0 : List UInt8 := [42, 27, 182, 0, 86, 153, 0, 5, 2, 172, 28, 156, 0, 6, 16, 254, 172, 42, 180, 0, 7, 16, 17, 27]
abbrev dktX5_typed_0 : List UInt8 := dkwX5_typed_0 ++ dktX5_typed_1
theorem dksX5_typed_0 : cX5_typed.data.toList.drop 0 = dktX5_typed_0 := by decide +kernel
theorem dksX5_typed_1 : cX5_typed.data.toList.drop 24 = dktX5_typed_1 := dk_seg dksX5_typed_0 24 rfl rfl
theorem dksX5_typed_2 : cX5_typed.data.toList.drop 48 = dktX5_typed_2 := dk_seg dksX5_typed_1 24 rfl rfl
theorem dX5_typed_0 : decode cX5_typed 0 = .ok (.aload_n 0, 1) := dk_42 (dk_at dksX5_typed_0 0 rfl rfl)
theorem dX5_typed_1 : decode cX5_typed 1 = .ok (.iload_n 1, 1) := dk_27 (dk_at dksX5_typed_0 1 rfl rfl)
theorem dX5_typed_2 : decode cX5_typed 2 = .ok (.invokevirtual 86, 3) := dk_182 0 86 (dk_at dksX5_typed_0 2 rfl rfl)
theorem dX5_typed_5 : decode cX5_typed 5 = .ok (.ifCond .eq 5, 3) := dk_153 0 5 (dk_at dksX5_typed_0 5 rfl rfl)
theorem dX5_typed_8 : decode cX5_typed 8 = .ok (.iconst (-1), 1) := dk_2 (dk_at dksX5_typed_0 8 rfl rfl)
theorem dX5_typed_9 : decode cX5_typed 9 = .ok (.ireturn, 1) := dk_172 (dk_at dksX5_typed_0 9 rfl rfl)
theorem dX5_typed_10 : decode cX5_typed 10 = .ok (.iload_n 2, 1) := dk_28 (dk_at dksX5_typed_0 10 rfl rfl)
theorem dX5_typed_11 : decode cX5_typed 11 = .ok (.ifCond .ge 6, 3) := dk_156 0 6 (dk_at dksX5_typed_0 11 rfl rfl)
theorem dX5_typed_14 : decode cX5_typed 14 = .ok (.bipush (-2), 2) := dk_16 254 (dk_at dksX5_typed_0 14 rfl rfl)
theorem dX5_typed_16 : decode cX5_typed 16 = .ok (.ireturn, 1) := dk_172 (dk_at dksX5_typed_0 16 rfl rfl)
theorem dX5_typed_17 : decode cX5_typed 17 = .ok (.aload_n 0, 1) := dk_42 (dk_at dksX5_typed_0 17 rfl rfl)
theorem dX5_typed_18 : decode cX5_typed 18 = .ok (.getfield 7, 3) := dk_180 0 7 (dk_at dksX5_typed_0 18 rfl rfl)
theorem dX5_typed_21 : decode cX5_typed 21 = .ok (.bipush 17, 2) := dk_16 17 (dk_at dksX5_typed_0 21 rfl rfl)
theorem dX5_typed_23 : decode cX5_typed 23 = .ok (.iload_n 1, 1) := dk_27 (dk_at dksX5_typed_0 23 rfl rfl)
theorem dX5_typed_24 : decode cX5_typed 24 = .ok (.iadd, 1) := dk_96 (dk_at dksX5_typed_1 0 rfl rfl)
theorem dX5_typed_25 : decode cX5_typed 25 = .ok (.iaload, 1) := dk_46 (dk_at dksX5_typed_1 1 rfl rfl)
theorem dX5_typed_26 : decode cX5_typed 26 = .ok (.istore_n 3, 1) := dk_62 (dk_at dksX5_typed_1 2 rfl rfl)
theorem dX5_typed_27 : decode cX5_typed 27 = .ok (.iload_n 2, 1) := dk_28 (dk_at dksX5_typed_1 3 rfl rfl)
theorem dX5_typed_28 : decode cX5_typed 28 = .ok (.iload_n 3, 1) := dk_29 (dk_at dksX5_typed_1 4 rfl rfl)
theorem dX5_typed_29 : decode cX5_typed 29 = .ok (.if_icmp .ge 34, 3) := dk_162 0 34 (dk_at dksX5_typed_1 5 rfl rfl)
theorem dX5_typed_32 : decode cX5_typed 32 = .ok (.iload_n 2, 1) := dk_28 (dk_at dksX5_typed_1 8 rfl rfl)
theorem dX5_typed_33 : decode cX5_typed 33 = .ok (.bipush 24, 2) := dk_16 24 (dk_at dksX5_typed_1 9 rfl rfl)
theorem dX5_typed_35 : decode cX5_typed 35 = .ok (.if_icmp .ge 28, 3) := dk_162 0 28 (dk_at dksX5_typed_1 11 rfl rfl)
theorem dX5_typed_38 : decode cX5_typed 38 = .ok (.aload_n 0, 1) := dk_42 (dk_at dksX5_typed_1 14 rfl rfl)
theorem dX5_typed_39 : decode cX5_typed 39 = .ok (.getfield 7, 3) := dk_180 0 7 (dk_at dksX5_typed_1 15 rfl rfl)
theorem dX5_typed_42 : decode cX5_typed 42 = .ok (.sipush 544, 3) := dk_17 2 32 (dk_at dksX5_typed_1 18 rfl rfl)
theorem dX5_typed_45 : decode cX5_typed 45 = .ok (.bipush 24, 2) := dk_16 24 (dk_at dksX5_typed_1 21 rfl rfl)
theorem dX5_typed_47 : decode cX5_typed 47 = .ok (.iload_n 1, 1) := dk_27 (dk_at dksX5_typed_1 23 rfl rfl)
theorem dX5_typed_48 : decode cX5_typed 48 = .ok (.imul, 1) := dk_104 (dk_at dksX5_typed_2 0 rfl rfl)
theorem dX5_typed_49 : decode cX5_typed 49 = .ok (.iadd, 1) := dk_96 (dk_at dksX5_typed_2 1 rfl rfl)
theorem dX5_typed_50 : decode cX5_typed 50 = .ok (.iload_n 3, 1) := dk_29 (dk_at dksX5_typed_2 2 rfl rfl)
theorem dX5_typed_51 : decode cX5_typed 51 = .ok (.iconst 1, 1) := dk_4 (dk_at dksX5_typed_2 3 rfl rfl)
theorem dX5_typed_52 : decode cX5_typed 52 = .ok (.isub, 1) := dk_100 (dk_at dksX5_typed_2 4 rfl rfl)
theorem dX5_typed_53 : decode cX5_typed 53 = .ok (.iload_n 2, 1) := dk_28 (dk_at dksX5_typed_2 5 rfl rfl)
theorem dX5_typed_54 : decode cX5_typed 54 = .ok (.isub, 1) := dk_100 (dk_at dksX5_typed_2 6 rfl rfl)
theorem dX5_typed_55 : decode cX5_typed 55 = .ok (.bipush 24, 2) := dk_16 24 (dk_at dksX5_typed_2 7 rfl rfl)
theorem dX5_typed_57 : decode cX5_typed 57 = .ok (.irem, 1) := dk_112 (dk_at dksX5_typed_2 9 rfl rfl)
theorem dX5_typed_58 : decode cX5_typed 58 = .ok (.iadd, 1) := dk_96 (dk_at dksX5_typed_2 10 rfl rfl)
theorem dX5_typed_59 : decode cX5_typed 59 = .ok (.iaload, 1) := dk_46 (dk_at dksX5_typed_2 11 rfl rfl)
theorem dX5_typed_60 : decode cX5_typed 60 = .ok (.goto 5, 3) := dk_167 0 5 (dk_at dksX5_typed_2 12 rfl rfl)
theorem dX5_typed_63 : decode cX5_typed 63 = .ok (.bipush (-5), 2) := dk_16 251 (dk_at dksX5_typed_2 15 rfl rfl)
theorem dX5_typed_65 : decode cX5_typed 65 = .ok (.ireturn, 1) := dk_172 (dk_at dksX5_typed_2 17 rfl rfl)
abbrev cX5_stroke : ByteArray := prog_11_method_57_code
def yX5_stroke : MethodName := ⟨RX5, "stroke", "(II)I"⟩
def dkwX5_stroke_2 : List UInt8 := [100, 16, 16, 112, 104, 96, 28, 96, 46, 167, 0, 5, 16, 251, 172]
abbrev dktX5_stroke_2 : List UInt8 := dkwX5_stroke_2 ++ []
def dkwX5_stroke_1 : List UInt8 := [27, 29, 162, 0, 34, 27, 16, 16, 162, 0, 28, 42, 180, 0, 7, 17, 1, 52, 16, 6, 29, 4, 100, 27]
abbrev dktX5_stroke_1 : List UInt8 := dkwX5_stroke_1 ++ dktX5_stroke_2
def dkwX5_stroke_0 : List UInt8 := [27, 155, 0, 12, 28, 3, 8, 184, 0, 68, 154, 0, 6, 16, 254, 172, 42, 180, 0, 7, 16, 9, 46, 62]
abbrev dktX5_stroke_0 : List UInt8 := dkwX5_stroke_0 ++ dktX5_stroke_1
theorem dksX5_stroke_0 : cX5_stroke.data.toList.drop 0 = dktX5_stroke_0 := by decide +kernel
theorem dksX5_stroke_1 : cX5_stroke.data.toList.drop 24 = dktX5_stroke_1 := dk_seg dksX5_stroke_0 24 rfl rfl
theorem dksX5_stroke_2 : cX5_stroke.data.toList.drop 48 = dktX5_stroke_2 := dk_seg dksX5_stroke_1 24 rfl rfl
theorem dX5_stroke_0 : decode cX5_stroke 0 = .ok (.iload_n 1, 1) := dk_27 (dk_at dksX5_stroke_0 0 rfl rfl)
theorem dX5_stroke_1 : decode cX5_stroke 1 = .ok (.ifCond .lt 12, 3) := dk_155 0 12 (dk_at dksX5_stroke_0 1 rfl rfl)
theorem dX5_stroke_4 : decode cX5_stroke 4 = .ok (.iload_n 2, 1) := dk_28 (dk_at dksX5_stroke_0 4 rfl rfl)
theorem dX5_stroke_5 : decode cX5_stroke 5 = .ok (.iconst 0, 1) := dk_3 (dk_at dksX5_stroke_0 5 rfl rfl)
theorem dX5_stroke_6 : decode cX5_stroke 6 = .ok (.iconst 5, 1) := dk_8 (dk_at dksX5_stroke_0 6 rfl rfl)
theorem dX5_stroke_7 : decode cX5_stroke 7 = .ok (.invokestatic 68, 3) := dk_184 0 68 (dk_at dksX5_stroke_0 7 rfl rfl)
theorem dX5_stroke_10 : decode cX5_stroke 10 = .ok (.ifCond .ne 6, 3) := dk_154 0 6 (dk_at dksX5_stroke_0 10 rfl rfl)
theorem dX5_stroke_13 : decode cX5_stroke 13 = .ok (.bipush (-2), 2) := dk_16 254 (dk_at dksX5_stroke_0 13 rfl rfl)
theorem dX5_stroke_15 : decode cX5_stroke 15 = .ok (.ireturn, 1) := dk_172 (dk_at dksX5_stroke_0 15 rfl rfl)
theorem dX5_stroke_16 : decode cX5_stroke 16 = .ok (.aload_n 0, 1) := dk_42 (dk_at dksX5_stroke_0 16 rfl rfl)
theorem dX5_stroke_17 : decode cX5_stroke 17 = .ok (.getfield 7, 3) := dk_180 0 7 (dk_at dksX5_stroke_0 17 rfl rfl)
theorem dX5_stroke_20 : decode cX5_stroke 20 = .ok (.bipush 9, 2) := dk_16 9 (dk_at dksX5_stroke_0 20 rfl rfl)
theorem dX5_stroke_22 : decode cX5_stroke 22 = .ok (.iaload, 1) := dk_46 (dk_at dksX5_stroke_0 22 rfl rfl)
theorem dX5_stroke_23 : decode cX5_stroke 23 = .ok (.istore_n 3, 1) := dk_62 (dk_at dksX5_stroke_0 23 rfl rfl)
theorem dX5_stroke_24 : decode cX5_stroke 24 = .ok (.iload_n 1, 1) := dk_27 (dk_at dksX5_stroke_1 0 rfl rfl)
theorem dX5_stroke_25 : decode cX5_stroke 25 = .ok (.iload_n 3, 1) := dk_29 (dk_at dksX5_stroke_1 1 rfl rfl)
theorem dX5_stroke_26 : decode cX5_stroke 26 = .ok (.if_icmp .ge 34, 3) := dk_162 0 34 (dk_at dksX5_stroke_1 2 rfl rfl)
theorem dX5_stroke_29 : decode cX5_stroke 29 = .ok (.iload_n 1, 1) := dk_27 (dk_at dksX5_stroke_1 5 rfl rfl)
theorem dX5_stroke_30 : decode cX5_stroke 30 = .ok (.bipush 16, 2) := dk_16 16 (dk_at dksX5_stroke_1 6 rfl rfl)
theorem dX5_stroke_32 : decode cX5_stroke 32 = .ok (.if_icmp .ge 28, 3) := dk_162 0 28 (dk_at dksX5_stroke_1 8 rfl rfl)
theorem dX5_stroke_35 : decode cX5_stroke 35 = .ok (.aload_n 0, 1) := dk_42 (dk_at dksX5_stroke_1 11 rfl rfl)
theorem dX5_stroke_36 : decode cX5_stroke 36 = .ok (.getfield 7, 3) := dk_180 0 7 (dk_at dksX5_stroke_1 12 rfl rfl)
theorem dX5_stroke_39 : decode cX5_stroke 39 = .ok (.sipush 308, 3) := dk_17 1 52 (dk_at dksX5_stroke_1 15 rfl rfl)
theorem dX5_stroke_42 : decode cX5_stroke 42 = .ok (.bipush 6, 2) := dk_16 6 (dk_at dksX5_stroke_1 18 rfl rfl)
theorem dX5_stroke_44 : decode cX5_stroke 44 = .ok (.iload_n 3, 1) := dk_29 (dk_at dksX5_stroke_1 20 rfl rfl)
theorem dX5_stroke_45 : decode cX5_stroke 45 = .ok (.iconst 1, 1) := dk_4 (dk_at dksX5_stroke_1 21 rfl rfl)
theorem dX5_stroke_46 : decode cX5_stroke 46 = .ok (.isub, 1) := dk_100 (dk_at dksX5_stroke_1 22 rfl rfl)
theorem dX5_stroke_47 : decode cX5_stroke 47 = .ok (.iload_n 1, 1) := dk_27 (dk_at dksX5_stroke_1 23 rfl rfl)
theorem dX5_stroke_48 : decode cX5_stroke 48 = .ok (.isub, 1) := dk_100 (dk_at dksX5_stroke_2 0 rfl rfl)
theorem dX5_stroke_49 : decode cX5_stroke 49 = .ok (.bipush 16, 2) := dk_16 16 (dk_at dksX5_stroke_2 1 rfl rfl)
theorem dX5_stroke_51 : decode cX5_stroke 51 = .ok (.irem, 1) := dk_112 (dk_at dksX5_stroke_2 3 rfl rfl)
theorem dX5_stroke_52 : decode cX5_stroke 52 = .ok (.imul, 1) := dk_104 (dk_at dksX5_stroke_2 4 rfl rfl)
theorem dX5_stroke_53 : decode cX5_stroke 53 = .ok (.iadd, 1) := dk_96 (dk_at dksX5_stroke_2 5 rfl rfl)
theorem dX5_stroke_54 : decode cX5_stroke 54 = .ok (.iload_n 2, 1) := dk_28 (dk_at dksX5_stroke_2 6 rfl rfl)
theorem dX5_stroke_55 : decode cX5_stroke 55 = .ok (.iadd, 1) := dk_96 (dk_at dksX5_stroke_2 7 rfl rfl)
theorem dX5_stroke_56 : decode cX5_stroke 56 = .ok (.iaload, 1) := dk_46 (dk_at dksX5_stroke_2 8 rfl rfl)
theorem dX5_stroke_57 : decode cX5_stroke 57 = .ok (.goto 5, 3) := dk_167 0 5 (dk_at dksX5_stroke_2 9 rfl rfl)
theorem dX5_stroke_60 : decode cX5_stroke 60 = .ok (.bipush (-5), 2) := dk_16 251 (dk_at dksX5_stroke_2 12 rfl rfl)
theorem dX5_stroke_62 : decode cX5_stroke 62 = .ok (.ireturn, 1) := dk_172 (dk_at dksX5_stroke_2 14 rfl rfl)
abbrev cX5_dispute : ByteArray := prog_11_method_58_code
def yX5_dispute : MethodName := ⟨RX5, "dispute", "(II)I"⟩
def dkwX5_dispute_1 : List UInt8 := [17, 1, 148, 16, 7, 27, 104, 96, 28, 96, 46, 167, 0, 5, 16, 254, 172]
abbrev dktX5_dispute_1 : List UInt8 := dkwX5_dispute_1 ++ []
def dkwX5_dispute_0 : List UInt8 := [42, 27, 182, 0, 165, 153, 0, 5, 2, 172, 28, 3, 7, 184, 0, 68, 153, 0, 21, 42, 180, 0, 7]
abbrev dktX5_dispute_0 : List UInt8 := dkwX5_dispute_0 ++ dktX5_dispute_1
theorem dksX5_dispute_0 : cX5_dispute.data.toList.drop 0 = dktX5_dispute_0 := by decide +kernel
theorem dksX5_dispute_1 : cX5_dispute.data.toList.drop 23 = dktX5_dispute_1 := dk_seg dksX5_dispute_0 23 rfl rfl
theorem dX5_dispute_0 : decode cX5_dispute 0 = .ok (.aload_n 0, 1) := dk_42 (dk_at dksX5_dispute_0 0 rfl rfl)
theorem dX5_dispute_1 : decode cX5_dispute 1 = .ok (.iload_n 1, 1) := dk_27 (dk_at dksX5_dispute_0 1 rfl rfl)
theorem dX5_dispute_2 : decode cX5_dispute 2 = .ok (.invokevirtual 165, 3) := dk_182 0 165 (dk_at dksX5_dispute_0 2 rfl rfl)
theorem dX5_dispute_5 : decode cX5_dispute 5 = .ok (.ifCond .eq 5, 3) := dk_153 0 5 (dk_at dksX5_dispute_0 5 rfl rfl)
theorem dX5_dispute_8 : decode cX5_dispute 8 = .ok (.iconst (-1), 1) := dk_2 (dk_at dksX5_dispute_0 8 rfl rfl)
theorem dX5_dispute_9 : decode cX5_dispute 9 = .ok (.ireturn, 1) := dk_172 (dk_at dksX5_dispute_0 9 rfl rfl)
theorem dX5_dispute_10 : decode cX5_dispute 10 = .ok (.iload_n 2, 1) := dk_28 (dk_at dksX5_dispute_0 10 rfl rfl)
theorem dX5_dispute_11 : decode cX5_dispute 11 = .ok (.iconst 0, 1) := dk_3 (dk_at dksX5_dispute_0 11 rfl rfl)
theorem dX5_dispute_12 : decode cX5_dispute 12 = .ok (.iconst 4, 1) := dk_7 (dk_at dksX5_dispute_0 12 rfl rfl)
theorem dX5_dispute_13 : decode cX5_dispute 13 = .ok (.invokestatic 68, 3) := dk_184 0 68 (dk_at dksX5_dispute_0 13 rfl rfl)
theorem dX5_dispute_16 : decode cX5_dispute 16 = .ok (.ifCond .eq 21, 3) := dk_153 0 21 (dk_at dksX5_dispute_0 16 rfl rfl)
theorem dX5_dispute_19 : decode cX5_dispute 19 = .ok (.aload_n 0, 1) := dk_42 (dk_at dksX5_dispute_0 19 rfl rfl)
theorem dX5_dispute_20 : decode cX5_dispute 20 = .ok (.getfield 7, 3) := dk_180 0 7 (dk_at dksX5_dispute_0 20 rfl rfl)
theorem dX5_dispute_23 : decode cX5_dispute 23 = .ok (.sipush 404, 3) := dk_17 1 148 (dk_at dksX5_dispute_1 0 rfl rfl)
theorem dX5_dispute_26 : decode cX5_dispute 26 = .ok (.bipush 7, 2) := dk_16 7 (dk_at dksX5_dispute_1 3 rfl rfl)
theorem dX5_dispute_28 : decode cX5_dispute 28 = .ok (.iload_n 1, 1) := dk_27 (dk_at dksX5_dispute_1 5 rfl rfl)
theorem dX5_dispute_29 : decode cX5_dispute 29 = .ok (.imul, 1) := dk_104 (dk_at dksX5_dispute_1 6 rfl rfl)
theorem dX5_dispute_30 : decode cX5_dispute 30 = .ok (.iadd, 1) := dk_96 (dk_at dksX5_dispute_1 7 rfl rfl)
theorem dX5_dispute_31 : decode cX5_dispute 31 = .ok (.iload_n 2, 1) := dk_28 (dk_at dksX5_dispute_1 8 rfl rfl)
theorem dX5_dispute_32 : decode cX5_dispute 32 = .ok (.iadd, 1) := dk_96 (dk_at dksX5_dispute_1 9 rfl rfl)
theorem dX5_dispute_33 : decode cX5_dispute 33 = .ok (.iaload, 1) := dk_46 (dk_at dksX5_dispute_1 10 rfl rfl)
theorem dX5_dispute_34 : decode cX5_dispute 34 = .ok (.goto 5, 3) := dk_167 0 5 (dk_at dksX5_dispute_1 11 rfl rfl)
theorem dX5_dispute_37 : decode cX5_dispute 37 = .ok (.bipush (-2), 2) := dk_16 254 (dk_at dksX5_dispute_1 14 rfl rfl)
theorem dX5_dispute_39 : decode cX5_dispute 39 = .ok (.ireturn, 1) := dk_172 (dk_at dksX5_dispute_1 16 rfl rfl)
abbrev cX5_distance : ByteArray := prog_11_method_59_code
def yX5_distance : MethodName := ⟨RX5, "distance", "(III)F"⟩
def dkwX5_distance_1 : List UInt8 := [18, 194, 167, 0, 10, 42, 27, 28, 29, 182, 0, 132, 174]
abbrev dktX5_distance_1 : List UInt8 := dkwX5_distance_1 ++ []
def dkwX5_distance_0 : List UInt8 := [42, 27, 182, 0, 86, 154, 0, 18, 28, 155, 0, 14, 29, 3, 17, 39, 15, 184, 0, 68, 154, 0, 8]
abbrev dktX5_distance_0 : List UInt8 := dkwX5_distance_0 ++ dktX5_distance_1
theorem dksX5_distance_0 : cX5_distance.data.toList.drop 0 = dktX5_distance_0 := by decide +kernel
theorem dksX5_distance_1 : cX5_distance.data.toList.drop 23 = dktX5_distance_1 := dk_seg dksX5_distance_0 23 rfl rfl
theorem dX5_distance_0 : decode cX5_distance 0 = .ok (.aload_n 0, 1) := dk_42 (dk_at dksX5_distance_0 0 rfl rfl)
theorem dX5_distance_1 : decode cX5_distance 1 = .ok (.iload_n 1, 1) := dk_27 (dk_at dksX5_distance_0 1 rfl rfl)
theorem dX5_distance_2 : decode cX5_distance 2 = .ok (.invokevirtual 86, 3) := dk_182 0 86 (dk_at dksX5_distance_0 2 rfl rfl)
theorem dX5_distance_5 : decode cX5_distance 5 = .ok (.ifCond .ne 18, 3) := dk_154 0 18 (dk_at dksX5_distance_0 5 rfl rfl)
theorem dX5_distance_8 : decode cX5_distance 8 = .ok (.iload_n 2, 1) := dk_28 (dk_at dksX5_distance_0 8 rfl rfl)
theorem dX5_distance_9 : decode cX5_distance 9 = .ok (.ifCond .lt 14, 3) := dk_155 0 14 (dk_at dksX5_distance_0 9 rfl rfl)
theorem dX5_distance_12 : decode cX5_distance 12 = .ok (.iload_n 3, 1) := dk_29 (dk_at dksX5_distance_0 12 rfl rfl)
theorem dX5_distance_13 : decode cX5_distance 13 = .ok (.iconst 0, 1) := dk_3 (dk_at dksX5_distance_0 13 rfl rfl)
theorem dX5_distance_14 : decode cX5_distance 14 = .ok (.sipush 9999, 3) := dk_17 39 15 (dk_at dksX5_distance_0 14 rfl rfl)
theorem dX5_distance_17 : decode cX5_distance 17 = .ok (.invokestatic 68, 3) := dk_184 0 68 (dk_at dksX5_distance_0 17 rfl rfl)
theorem dX5_distance_20 : decode cX5_distance 20 = .ok (.ifCond .ne 8, 3) := dk_154 0 8 (dk_at dksX5_distance_0 20 rfl rfl)
theorem dX5_distance_23 : decode cX5_distance 23 = .ok (.ldc 194, 2) := dk_18 194 (dk_at dksX5_distance_1 0 rfl rfl)
theorem dX5_distance_25 : decode cX5_distance 25 = .ok (.goto 10, 3) := dk_167 0 10 (dk_at dksX5_distance_1 2 rfl rfl)
theorem dX5_distance_28 : decode cX5_distance 28 = .ok (.aload_n 0, 1) := dk_42 (dk_at dksX5_distance_1 5 rfl rfl)
theorem dX5_distance_29 : decode cX5_distance 29 = .ok (.iload_n 1, 1) := dk_27 (dk_at dksX5_distance_1 6 rfl rfl)
theorem dX5_distance_30 : decode cX5_distance 30 = .ok (.iload_n 2, 1) := dk_28 (dk_at dksX5_distance_1 7 rfl rfl)
theorem dX5_distance_31 : decode cX5_distance 31 = .ok (.iload_n 3, 1) := dk_29 (dk_at dksX5_distance_1 8 rfl rfl)
theorem dX5_distance_32 : decode cX5_distance 32 = .ok (.invokevirtual 132, 3) := dk_182 0 132 (dk_at dksX5_distance_1 9 rfl rfl)
theorem dX5_distance_35 : decode cX5_distance 35 = .ok (.freturn, 1) := dk_174 (dk_at dksX5_distance_1 12 rfl rfl)
abbrev cX5_verdict : ByteArray := prog_11_method_60_code
def yX5_verdict : MethodName := ⟨RX5, "verdict", "(I)I"⟩
def dkwX5_verdict_1 : List UInt8 := [167, 0, 5, 16, 251, 172]
abbrev dktX5_verdict_1 : List UInt8 := dkwX5_verdict_1 ++ []
def dkwX5_verdict_0 : List UInt8 := [42, 27, 182, 0, 79, 153, 0, 5, 2, 172, 42, 27, 182, 0, 76, 153, 0, 11, 42, 27, 182, 0, 136]
abbrev dktX5_verdict_0 : List UInt8 := dkwX5_verdict_0 ++ dktX5_verdict_1
theorem dksX5_verdict_0 : cX5_verdict.data.toList.drop 0 = dktX5_verdict_0 := by decide +kernel
theorem dksX5_verdict_1 : cX5_verdict.data.toList.drop 23 = dktX5_verdict_1 := dk_seg dksX5_verdict_0 23 rfl rfl
theorem dX5_verdict_0 : decode cX5_verdict 0 = .ok (.aload_n 0, 1) := dk_42 (dk_at dksX5_verdict_0 0 rfl rfl)
theorem dX5_verdict_1 : decode cX5_verdict 1 = .ok (.iload_n 1, 1) := dk_27 (dk_at dksX5_verdict_0 1 rfl rfl)
theorem dX5_verdict_2 : decode cX5_verdict 2 = .ok (.invokevirtual 79, 3) := dk_182 0 79 (dk_at dksX5_verdict_0 2 rfl rfl)
theorem dX5_verdict_5 : decode cX5_verdict 5 = .ok (.ifCond .eq 5, 3) := dk_153 0 5 (dk_at dksX5_verdict_0 5 rfl rfl)
theorem dX5_verdict_8 : decode cX5_verdict 8 = .ok (.iconst (-1), 1) := dk_2 (dk_at dksX5_verdict_0 8 rfl rfl)
theorem dX5_verdict_9 : decode cX5_verdict 9 = .ok (.ireturn, 1) := dk_172 (dk_at dksX5_verdict_0 9 rfl rfl)
theorem dX5_verdict_10 : decode cX5_verdict 10 = .ok (.aload_n 0, 1) := dk_42 (dk_at dksX5_verdict_0 10 rfl rfl)
theorem dX5_verdict_11 : decode cX5_verdict 11 = .ok (.iload_n 1, 1) := dk_27 (dk_at dksX5_verdict_0 11 rfl rfl)
theorem dX5_verdict_12 : decode cX5_verdict 12 = .ok (.invokevirtual 76, 3) := dk_182 0 76 (dk_at dksX5_verdict_0 12 rfl rfl)
theorem dX5_verdict_15 : decode cX5_verdict 15 = .ok (.ifCond .eq 11, 3) := dk_153 0 11 (dk_at dksX5_verdict_0 15 rfl rfl)
theorem dX5_verdict_18 : decode cX5_verdict 18 = .ok (.aload_n 0, 1) := dk_42 (dk_at dksX5_verdict_0 18 rfl rfl)
theorem dX5_verdict_19 : decode cX5_verdict 19 = .ok (.iload_n 1, 1) := dk_27 (dk_at dksX5_verdict_0 19 rfl rfl)
theorem dX5_verdict_20 : decode cX5_verdict 20 = .ok (.invokevirtual 136, 3) := dk_182 0 136 (dk_at dksX5_verdict_0 20 rfl rfl)
theorem dX5_verdict_23 : decode cX5_verdict 23 = .ok (.goto 5, 3) := dk_167 0 5 (dk_at dksX5_verdict_1 0 rfl rfl)
theorem dX5_verdict_26 : decode cX5_verdict 26 = .ok (.bipush (-5), 2) := dk_16 251 (dk_at dksX5_verdict_1 3 rfl rfl)
theorem dX5_verdict_28 : decode cX5_verdict 28 = .ok (.ireturn, 1) := dk_172 (dk_at dksX5_verdict_1 5 rfl rfl)
abbrev cX5_ghostsBy : ByteArray := prog_11_method_61_code
def yX5_ghostsBy : MethodName := ⟨RX5, "ghostsBy", "(I)I"⟩
def dkwX5_ghostsBy_5 : List UInt8 := [21, 7, 153, 0, 7, 2, 167, 0, 4, 3, 96, 54, 4, 132, 5, 1, 167, 255, 159, 21, 4, 172]
abbrev dktX5_ghostsBy_5 : List UInt8 := dkwX5_ghostsBy_5 ++ []
def dkwX5_ghostsBy_4 : List UInt8 := [96, 28, 79, 21, 4, 21, 6, 153, 0, 12, 21, 7, 154, 0, 7, 4, 167, 0, 18, 21, 6, 154, 0, 12]
abbrev dktX5_ghostsBy_4 : List UInt8 := dkwX5_ghostsBy_4 ++ dktX5_ghostsBy_5
def dkwX5_ghostsBy_3 : List UInt8 := [180, 0, 7, 16, 20, 27, 96, 29, 79, 42, 21, 5, 182, 0, 191, 54, 7, 42, 180, 0, 7, 16, 20, 27]
abbrev dktX5_ghostsBy_3 : List UInt8 := dkwX5_ghostsBy_3 ++ dktX5_ghostsBy_4
def dkwX5_ghostsBy_2 : List UInt8 := [21, 5, 27, 159, 0, 82, 42, 21, 5, 182, 0, 72, 154, 0, 73, 42, 21, 5, 182, 0, 191, 54, 6, 42]
abbrev dktX5_ghostsBy_2 : List UInt8 := dkwX5_ghostsBy_2 ++ dktX5_ghostsBy_3
def dkwX5_ghostsBy_1 : List UInt8 := [3, 167, 0, 5, 16, 251, 62, 16, 100, 54, 4, 3, 54, 5, 21, 5, 42, 182, 0, 64, 162, 0, 94]
abbrev dktX5_ghostsBy_1 : List UInt8 := dkwX5_ghostsBy_1 ++ dktX5_ghostsBy_2
def dkwX5_ghostsBy_0 : List UInt8 := [42, 27, 182, 0, 79, 153, 0, 5, 2, 172, 42, 180, 0, 7, 16, 20, 27, 96, 46, 61, 28, 156, 0, 7]
abbrev dktX5_ghostsBy_0 : List UInt8 := dkwX5_ghostsBy_0 ++ dktX5_ghostsBy_1
theorem dksX5_ghostsBy_0 : cX5_ghostsBy.data.toList.drop 0 = dktX5_ghostsBy_0 := by decide +kernel
theorem dksX5_ghostsBy_1 : cX5_ghostsBy.data.toList.drop 24 = dktX5_ghostsBy_1 := dk_seg dksX5_ghostsBy_0 24 rfl rfl
theorem dksX5_ghostsBy_2 : cX5_ghostsBy.data.toList.drop 47 = dktX5_ghostsBy_2 := dk_seg dksX5_ghostsBy_1 23 rfl rfl
theorem dksX5_ghostsBy_3 : cX5_ghostsBy.data.toList.drop 71 = dktX5_ghostsBy_3 := dk_seg dksX5_ghostsBy_2 24 rfl rfl
theorem dksX5_ghostsBy_4 : cX5_ghostsBy.data.toList.drop 95 = dktX5_ghostsBy_4 := dk_seg dksX5_ghostsBy_3 24 rfl rfl
theorem dksX5_ghostsBy_5 : cX5_ghostsBy.data.toList.drop 119 = dktX5_ghostsBy_5 := dk_seg dksX5_ghostsBy_4 24 rfl rfl
theorem dX5_ghostsBy_0 : decode cX5_ghostsBy 0 = .ok (.aload_n 0, 1) := dk_42 (dk_at dksX5_ghostsBy_0 0 rfl rfl)
theorem dX5_ghostsBy_1 : decode cX5_ghostsBy 1 = .ok (.iload_n 1, 1) := dk_27 (dk_at dksX5_ghostsBy_0 1 rfl rfl)
theorem dX5_ghostsBy_2 : decode cX5_ghostsBy 2 = .ok (.invokevirtual 79, 3) := dk_182 0 79 (dk_at dksX5_ghostsBy_0 2 rfl rfl)
theorem dX5_ghostsBy_5 : decode cX5_ghostsBy 5 = .ok (.ifCond .eq 5, 3) := dk_153 0 5 (dk_at dksX5_ghostsBy_0 5 rfl rfl)
theorem dX5_ghostsBy_8 : decode cX5_ghostsBy 8 = .ok (.iconst (-1), 1) := dk_2 (dk_at dksX5_ghostsBy_0 8 rfl rfl)
theorem dX5_ghostsBy_9 : decode cX5_ghostsBy 9 = .ok (.ireturn, 1) := dk_172 (dk_at dksX5_ghostsBy_0 9 rfl rfl)
theorem dX5_ghostsBy_10 : decode cX5_ghostsBy 10 = .ok (.aload_n 0, 1) := dk_42 (dk_at dksX5_ghostsBy_0 10 rfl rfl)
theorem dX5_ghostsBy_11 : decode cX5_ghostsBy 11 = .ok (.getfield 7, 3) := dk_180 0 7 (dk_at dksX5_ghostsBy_0 11 rfl rfl)
theorem dX5_ghostsBy_14 : decode cX5_ghostsBy 14 = .ok (.bipush 20, 2) := dk_16 20 (dk_at dksX5_ghostsBy_0 14 rfl rfl)
theorem dX5_ghostsBy_16 : decode cX5_ghostsBy 16 = .ok (.iload_n 1, 1) := dk_27 (dk_at dksX5_ghostsBy_0 16 rfl rfl)
theorem dX5_ghostsBy_17 : decode cX5_ghostsBy 17 = .ok (.iadd, 1) := dk_96 (dk_at dksX5_ghostsBy_0 17 rfl rfl)
theorem dX5_ghostsBy_18 : decode cX5_ghostsBy 18 = .ok (.iaload, 1) := dk_46 (dk_at dksX5_ghostsBy_0 18 rfl rfl)
theorem dX5_ghostsBy_19 : decode cX5_ghostsBy 19 = .ok (.istore_n 2, 1) := dk_61 (dk_at dksX5_ghostsBy_0 19 rfl rfl)
theorem dX5_ghostsBy_20 : decode cX5_ghostsBy 20 = .ok (.iload_n 2, 1) := dk_28 (dk_at dksX5_ghostsBy_0 20 rfl rfl)
theorem dX5_ghostsBy_21 : decode cX5_ghostsBy 21 = .ok (.ifCond .ge 7, 3) := dk_156 0 7 (dk_at dksX5_ghostsBy_0 21 rfl rfl)
theorem dX5_ghostsBy_24 : decode cX5_ghostsBy 24 = .ok (.iconst 0, 1) := dk_3 (dk_at dksX5_ghostsBy_1 0 rfl rfl)
theorem dX5_ghostsBy_25 : decode cX5_ghostsBy 25 = .ok (.goto 5, 3) := dk_167 0 5 (dk_at dksX5_ghostsBy_1 1 rfl rfl)
theorem dX5_ghostsBy_28 : decode cX5_ghostsBy 28 = .ok (.bipush (-5), 2) := dk_16 251 (dk_at dksX5_ghostsBy_1 4 rfl rfl)
theorem dX5_ghostsBy_30 : decode cX5_ghostsBy 30 = .ok (.istore_n 3, 1) := dk_62 (dk_at dksX5_ghostsBy_1 6 rfl rfl)
theorem dX5_ghostsBy_31 : decode cX5_ghostsBy 31 = .ok (.bipush 100, 2) := dk_16 100 (dk_at dksX5_ghostsBy_1 7 rfl rfl)
theorem dX5_ghostsBy_33 : decode cX5_ghostsBy 33 = .ok (.istore 4, 2) := dk_54 4 (dk_at dksX5_ghostsBy_1 9 rfl rfl)
theorem dX5_ghostsBy_35 : decode cX5_ghostsBy 35 = .ok (.iconst 0, 1) := dk_3 (dk_at dksX5_ghostsBy_1 11 rfl rfl)
theorem dX5_ghostsBy_36 : decode cX5_ghostsBy 36 = .ok (.istore 5, 2) := dk_54 5 (dk_at dksX5_ghostsBy_1 12 rfl rfl)
theorem dX5_ghostsBy_38 : decode cX5_ghostsBy 38 = .ok (.iload 5, 2) := dk_21 5 (dk_at dksX5_ghostsBy_1 14 rfl rfl)
theorem dX5_ghostsBy_40 : decode cX5_ghostsBy 40 = .ok (.aload_n 0, 1) := dk_42 (dk_at dksX5_ghostsBy_1 16 rfl rfl)
theorem dX5_ghostsBy_41 : decode cX5_ghostsBy 41 = .ok (.invokevirtual 64, 3) := dk_182 0 64 (dk_at dksX5_ghostsBy_1 17 rfl rfl)
theorem dX5_ghostsBy_44 : decode cX5_ghostsBy 44 = .ok (.if_icmp .ge 94, 3) := dk_162 0 94 (dk_at dksX5_ghostsBy_1 20 rfl rfl)
theorem dX5_ghostsBy_47 : decode cX5_ghostsBy 47 = .ok (.iload 5, 2) := dk_21 5 (dk_at dksX5_ghostsBy_2 0 rfl rfl)
theorem dX5_ghostsBy_49 : decode cX5_ghostsBy 49 = .ok (.iload_n 1, 1) := dk_27 (dk_at dksX5_ghostsBy_2 2 rfl rfl)
theorem dX5_ghostsBy_50 : decode cX5_ghostsBy 50 = .ok (.if_icmp .eq 82, 3) := dk_159 0 82 (dk_at dksX5_ghostsBy_2 3 rfl rfl)
theorem dX5_ghostsBy_53 : decode cX5_ghostsBy 53 = .ok (.aload_n 0, 1) := dk_42 (dk_at dksX5_ghostsBy_2 6 rfl rfl)
theorem dX5_ghostsBy_54 : decode cX5_ghostsBy 54 = .ok (.iload 5, 2) := dk_21 5 (dk_at dksX5_ghostsBy_2 7 rfl rfl)
theorem dX5_ghostsBy_56 : decode cX5_ghostsBy 56 = .ok (.invokevirtual 72, 3) := dk_182 0 72 (dk_at dksX5_ghostsBy_2 9 rfl rfl)
theorem dX5_ghostsBy_59 : decode cX5_ghostsBy 59 = .ok (.ifCond .ne 73, 3) := dk_154 0 73 (dk_at dksX5_ghostsBy_2 12 rfl rfl)
theorem dX5_ghostsBy_62 : decode cX5_ghostsBy 62 = .ok (.aload_n 0, 1) := dk_42 (dk_at dksX5_ghostsBy_2 15 rfl rfl)
theorem dX5_ghostsBy_63 : decode cX5_ghostsBy 63 = .ok (.iload 5, 2) := dk_21 5 (dk_at dksX5_ghostsBy_2 16 rfl rfl)
theorem dX5_ghostsBy_65 : decode cX5_ghostsBy 65 = .ok (.invokevirtual 191, 3) := dk_182 0 191 (dk_at dksX5_ghostsBy_2 18 rfl rfl)
theorem dX5_ghostsBy_68 : decode cX5_ghostsBy 68 = .ok (.istore 6, 2) := dk_54 6 (dk_at dksX5_ghostsBy_2 21 rfl rfl)
theorem dX5_ghostsBy_70 : decode cX5_ghostsBy 70 = .ok (.aload_n 0, 1) := dk_42 (dk_at dksX5_ghostsBy_2 23 rfl rfl)
theorem dX5_ghostsBy_71 : decode cX5_ghostsBy 71 = .ok (.getfield 7, 3) := dk_180 0 7 (dk_at dksX5_ghostsBy_3 0 rfl rfl)
theorem dX5_ghostsBy_74 : decode cX5_ghostsBy 74 = .ok (.bipush 20, 2) := dk_16 20 (dk_at dksX5_ghostsBy_3 3 rfl rfl)
theorem dX5_ghostsBy_76 : decode cX5_ghostsBy 76 = .ok (.iload_n 1, 1) := dk_27 (dk_at dksX5_ghostsBy_3 5 rfl rfl)
theorem dX5_ghostsBy_77 : decode cX5_ghostsBy 77 = .ok (.iadd, 1) := dk_96 (dk_at dksX5_ghostsBy_3 6 rfl rfl)
theorem dX5_ghostsBy_78 : decode cX5_ghostsBy 78 = .ok (.iload_n 3, 1) := dk_29 (dk_at dksX5_ghostsBy_3 7 rfl rfl)
theorem dX5_ghostsBy_79 : decode cX5_ghostsBy 79 = .ok (.iastore, 1) := dk_79 (dk_at dksX5_ghostsBy_3 8 rfl rfl)
theorem dX5_ghostsBy_80 : decode cX5_ghostsBy 80 = .ok (.aload_n 0, 1) := dk_42 (dk_at dksX5_ghostsBy_3 9 rfl rfl)
theorem dX5_ghostsBy_81 : decode cX5_ghostsBy 81 = .ok (.iload 5, 2) := dk_21 5 (dk_at dksX5_ghostsBy_3 10 rfl rfl)
theorem dX5_ghostsBy_83 : decode cX5_ghostsBy 83 = .ok (.invokevirtual 191, 3) := dk_182 0 191 (dk_at dksX5_ghostsBy_3 12 rfl rfl)
theorem dX5_ghostsBy_86 : decode cX5_ghostsBy 86 = .ok (.istore 7, 2) := dk_54 7 (dk_at dksX5_ghostsBy_3 15 rfl rfl)
theorem dX5_ghostsBy_88 : decode cX5_ghostsBy 88 = .ok (.aload_n 0, 1) := dk_42 (dk_at dksX5_ghostsBy_3 17 rfl rfl)
theorem dX5_ghostsBy_89 : decode cX5_ghostsBy 89 = .ok (.getfield 7, 3) := dk_180 0 7 (dk_at dksX5_ghostsBy_3 18 rfl rfl)
theorem dX5_ghostsBy_92 : decode cX5_ghostsBy 92 = .ok (.bipush 20, 2) := dk_16 20 (dk_at dksX5_ghostsBy_3 21 rfl rfl)
theorem dX5_ghostsBy_94 : decode cX5_ghostsBy 94 = .ok (.iload_n 1, 1) := dk_27 (dk_at dksX5_ghostsBy_3 23 rfl rfl)
theorem dX5_ghostsBy_95 : decode cX5_ghostsBy 95 = .ok (.iadd, 1) := dk_96 (dk_at dksX5_ghostsBy_4 0 rfl rfl)
theorem dX5_ghostsBy_96 : decode cX5_ghostsBy 96 = .ok (.iload_n 2, 1) := dk_28 (dk_at dksX5_ghostsBy_4 1 rfl rfl)
theorem dX5_ghostsBy_97 : decode cX5_ghostsBy 97 = .ok (.iastore, 1) := dk_79 (dk_at dksX5_ghostsBy_4 2 rfl rfl)
theorem dX5_ghostsBy_98 : decode cX5_ghostsBy 98 = .ok (.iload 4, 2) := dk_21 4 (dk_at dksX5_ghostsBy_4 3 rfl rfl)
theorem dX5_ghostsBy_100 : decode cX5_ghostsBy 100 = .ok (.iload 6, 2) := dk_21 6 (dk_at dksX5_ghostsBy_4 5 rfl rfl)
theorem dX5_ghostsBy_102 : decode cX5_ghostsBy 102 = .ok (.ifCond .eq 12, 3) := dk_153 0 12 (dk_at dksX5_ghostsBy_4 7 rfl rfl)
theorem dX5_ghostsBy_105 : decode cX5_ghostsBy 105 = .ok (.iload 7, 2) := dk_21 7 (dk_at dksX5_ghostsBy_4 10 rfl rfl)
theorem dX5_ghostsBy_107 : decode cX5_ghostsBy 107 = .ok (.ifCond .ne 7, 3) := dk_154 0 7 (dk_at dksX5_ghostsBy_4 12 rfl rfl)
theorem dX5_ghostsBy_110 : decode cX5_ghostsBy 110 = .ok (.iconst 1, 1) := dk_4 (dk_at dksX5_ghostsBy_4 15 rfl rfl)
theorem dX5_ghostsBy_111 : decode cX5_ghostsBy 111 = .ok (.goto 18, 3) := dk_167 0 18 (dk_at dksX5_ghostsBy_4 16 rfl rfl)
theorem dX5_ghostsBy_114 : decode cX5_ghostsBy 114 = .ok (.iload 6, 2) := dk_21 6 (dk_at dksX5_ghostsBy_4 19 rfl rfl)
theorem dX5_ghostsBy_116 : decode cX5_ghostsBy 116 = .ok (.ifCond .ne 12, 3) := dk_154 0 12 (dk_at dksX5_ghostsBy_4 21 rfl rfl)
theorem dX5_ghostsBy_119 : decode cX5_ghostsBy 119 = .ok (.iload 7, 2) := dk_21 7 (dk_at dksX5_ghostsBy_5 0 rfl rfl)
theorem dX5_ghostsBy_121 : decode cX5_ghostsBy 121 = .ok (.ifCond .eq 7, 3) := dk_153 0 7 (dk_at dksX5_ghostsBy_5 2 rfl rfl)
theorem dX5_ghostsBy_124 : decode cX5_ghostsBy 124 = .ok (.iconst (-1), 1) := dk_2 (dk_at dksX5_ghostsBy_5 5 rfl rfl)
theorem dX5_ghostsBy_125 : decode cX5_ghostsBy 125 = .ok (.goto 4, 3) := dk_167 0 4 (dk_at dksX5_ghostsBy_5 6 rfl rfl)
theorem dX5_ghostsBy_128 : decode cX5_ghostsBy 128 = .ok (.iconst 0, 1) := dk_3 (dk_at dksX5_ghostsBy_5 9 rfl rfl)
theorem dX5_ghostsBy_129 : decode cX5_ghostsBy 129 = .ok (.iadd, 1) := dk_96 (dk_at dksX5_ghostsBy_5 10 rfl rfl)
theorem dX5_ghostsBy_130 : decode cX5_ghostsBy 130 = .ok (.istore 4, 2) := dk_54 4 (dk_at dksX5_ghostsBy_5 11 rfl rfl)
theorem dX5_ghostsBy_132 : decode cX5_ghostsBy 132 = .ok (.iinc 5 1, 3) := dk_132 5 1 (dk_at dksX5_ghostsBy_5 13 rfl rfl)
theorem dX5_ghostsBy_135 : decode cX5_ghostsBy 135 = .ok (.goto (-97), 3) := dk_167 255 159 (dk_at dksX5_ghostsBy_5 16 rfl rfl)
theorem dX5_ghostsBy_138 : decode cX5_ghostsBy 138 = .ok (.iload 4, 2) := dk_21 4 (dk_at dksX5_ghostsBy_5 19 rfl rfl)
theorem dX5_ghostsBy_140 : decode cX5_ghostsBy 140 = .ok (.ireturn, 1) := dk_172 (dk_at dksX5_ghostsBy_5 21 rfl rfl)
abbrev cX5_count : ByteArray := prog_11_method_64_code
def yX5_count : MethodName := ⟨RX5, "count", "(I)I"⟩
def dkwX5_count_7 : List UInt8 := [180, 0, 168, 172, 16, 254, 172]
abbrev dktX5_count_7 : List UInt8 := dkwX5_count_7 ++ []
def dkwX5_count_6 : List UInt8 := [46, 172, 42, 180, 0, 7, 5, 46, 42, 180, 0, 7, 3, 46, 112, 172, 42, 180, 0, 47, 172, 42]
abbrev dktX5_count_6 : List UInt8 := dkwX5_count_6 ++ dktX5_count_7
def dkwX5_count_5 : List UInt8 := [46, 172, 42, 180, 0, 7, 16, 12, 46, 42, 180, 0, 7, 16, 13, 46, 96, 172, 42, 180, 0, 7, 16, 15]
abbrev dktX5_count_5 : List UInt8 := dkwX5_count_5 ++ dktX5_count_6
def dkwX5_count_4 : List UInt8 := [16, 11, 46, 96, 172, 42, 180, 0, 7, 16, 14, 46, 172, 42, 182, 0, 199, 172, 42, 180, 0, 7, 16, 16]
abbrev dktX5_count_4 : List UInt8 := dkwX5_count_4 ++ dktX5_count_5
def dkwX5_count_3 : List UInt8 := [182, 0, 196, 172, 42, 180, 0, 7, 16, 9, 46, 172, 42, 180, 0, 7, 16, 10, 46, 42, 180, 0, 7]
abbrev dktX5_count_3 : List UInt8 := dkwX5_count_3 ++ dktX5_count_4
def dkwX5_count_2 : List UInt8 := [42, 180, 0, 7, 5, 46, 172, 42, 180, 0, 7, 3, 46, 172, 42, 180, 0, 7, 4, 46, 172, 42, 27]
abbrev dktX5_count_2 : List UInt8 := dkwX5_count_2 ++ dktX5_count_3
def dkwX5_count_1 : List UInt8 := [170, 0, 0, 0, 0, 0, 199, 0, 0, 0, 0, 0, 0, 0, 15, 0, 0, 0, 79, 0, 0, 0, 86, 0, 0, 0, 93, 0, 0, 0, 100, 0, 0, 0, 100, 0, 0, 0, 100, 0, 0, 0, 106, 0, 0, 0, 114, 0, 0, 0, 130, 0, 0, 0, 138, 0, 0, 0, 143, 0, 0, 0, 151, 0, 0, 0, 167, 0, 0, 0, 175, 0, 0, 0, 189, 0, 0, 0, 194]
abbrev dktX5_count_1 : List UInt8 := dkwX5_count_1 ++ dktX5_count_2
def dkwX5_count_0 : List UInt8 := [27]
abbrev dktX5_count_0 : List UInt8 := dkwX5_count_0 ++ dktX5_count_1
theorem dksX5_count_0 : cX5_count.data.toList.drop 0 = dktX5_count_0 := by decide +kernel
theorem dksX5_count_1 : cX5_count.data.toList.drop 1 = dktX5_count_1 := dk_seg dksX5_count_0 1 rfl rfl
theorem dksX5_count_2 : cX5_count.data.toList.drop 80 = dktX5_count_2 := dk_seg dksX5_count_1 79 rfl rfl
theorem dksX5_count_3 : cX5_count.data.toList.drop 103 = dktX5_count_3 := dk_seg dksX5_count_2 23 rfl rfl
theorem dksX5_count_4 : cX5_count.data.toList.drop 126 = dktX5_count_4 := dk_seg dksX5_count_3 23 rfl rfl
theorem dksX5_count_5 : cX5_count.data.toList.drop 150 = dktX5_count_5 := dk_seg dksX5_count_4 24 rfl rfl
theorem dksX5_count_6 : cX5_count.data.toList.drop 174 = dktX5_count_6 := dk_seg dksX5_count_5 24 rfl rfl
theorem dksX5_count_7 : cX5_count.data.toList.drop 196 = dktX5_count_7 := dk_seg dksX5_count_6 22 rfl rfl
theorem dX5_count_0 : decode cX5_count 0 = .ok (.iload_n 1, 1) := dk_27 (dk_at dksX5_count_0 0 rfl rfl)
theorem dX5_count_1 : decode cX5_count 1 = .ok (.tableswitch 199 0 15 #[79, 86, 93, 100, 100, 100, 106, 114, 130, 138, 143, 151, 167, 175, 189, 194], 79) := by decide +kernel
theorem dX5_count_80 : decode cX5_count 80 = .ok (.aload_n 0, 1) := dk_42 (dk_at dksX5_count_2 0 rfl rfl)
theorem dX5_count_81 : decode cX5_count 81 = .ok (.getfield 7, 3) := dk_180 0 7 (dk_at dksX5_count_2 1 rfl rfl)
theorem dX5_count_84 : decode cX5_count 84 = .ok (.iconst 2, 1) := dk_5 (dk_at dksX5_count_2 4 rfl rfl)
theorem dX5_count_85 : decode cX5_count 85 = .ok (.iaload, 1) := dk_46 (dk_at dksX5_count_2 5 rfl rfl)
theorem dX5_count_86 : decode cX5_count 86 = .ok (.ireturn, 1) := dk_172 (dk_at dksX5_count_2 6 rfl rfl)
theorem dX5_count_87 : decode cX5_count 87 = .ok (.aload_n 0, 1) := dk_42 (dk_at dksX5_count_2 7 rfl rfl)
theorem dX5_count_88 : decode cX5_count 88 = .ok (.getfield 7, 3) := dk_180 0 7 (dk_at dksX5_count_2 8 rfl rfl)
theorem dX5_count_91 : decode cX5_count 91 = .ok (.iconst 0, 1) := dk_3 (dk_at dksX5_count_2 11 rfl rfl)
theorem dX5_count_92 : decode cX5_count 92 = .ok (.iaload, 1) := dk_46 (dk_at dksX5_count_2 12 rfl rfl)
theorem dX5_count_93 : decode cX5_count 93 = .ok (.ireturn, 1) := dk_172 (dk_at dksX5_count_2 13 rfl rfl)
theorem dX5_count_94 : decode cX5_count 94 = .ok (.aload_n 0, 1) := dk_42 (dk_at dksX5_count_2 14 rfl rfl)
theorem dX5_count_95 : decode cX5_count 95 = .ok (.getfield 7, 3) := dk_180 0 7 (dk_at dksX5_count_2 15 rfl rfl)
theorem dX5_count_98 : decode cX5_count 98 = .ok (.iconst 1, 1) := dk_4 (dk_at dksX5_count_2 18 rfl rfl)
theorem dX5_count_99 : decode cX5_count 99 = .ok (.iaload, 1) := dk_46 (dk_at dksX5_count_2 19 rfl rfl)
theorem dX5_count_100 : decode cX5_count 100 = .ok (.ireturn, 1) := dk_172 (dk_at dksX5_count_2 20 rfl rfl)
theorem dX5_count_101 : decode cX5_count 101 = .ok (.aload_n 0, 1) := dk_42 (dk_at dksX5_count_2 21 rfl rfl)
theorem dX5_count_102 : decode cX5_count 102 = .ok (.iload_n 1, 1) := dk_27 (dk_at dksX5_count_2 22 rfl rfl)
theorem dX5_count_103 : decode cX5_count 103 = .ok (.invokevirtual 196, 3) := dk_182 0 196 (dk_at dksX5_count_3 0 rfl rfl)
theorem dX5_count_106 : decode cX5_count 106 = .ok (.ireturn, 1) := dk_172 (dk_at dksX5_count_3 3 rfl rfl)
theorem dX5_count_107 : decode cX5_count 107 = .ok (.aload_n 0, 1) := dk_42 (dk_at dksX5_count_3 4 rfl rfl)
theorem dX5_count_108 : decode cX5_count 108 = .ok (.getfield 7, 3) := dk_180 0 7 (dk_at dksX5_count_3 5 rfl rfl)
theorem dX5_count_111 : decode cX5_count 111 = .ok (.bipush 9, 2) := dk_16 9 (dk_at dksX5_count_3 8 rfl rfl)
theorem dX5_count_113 : decode cX5_count 113 = .ok (.iaload, 1) := dk_46 (dk_at dksX5_count_3 10 rfl rfl)
theorem dX5_count_114 : decode cX5_count 114 = .ok (.ireturn, 1) := dk_172 (dk_at dksX5_count_3 11 rfl rfl)
theorem dX5_count_115 : decode cX5_count 115 = .ok (.aload_n 0, 1) := dk_42 (dk_at dksX5_count_3 12 rfl rfl)
theorem dX5_count_116 : decode cX5_count 116 = .ok (.getfield 7, 3) := dk_180 0 7 (dk_at dksX5_count_3 13 rfl rfl)
theorem dX5_count_119 : decode cX5_count 119 = .ok (.bipush 10, 2) := dk_16 10 (dk_at dksX5_count_3 16 rfl rfl)
theorem dX5_count_121 : decode cX5_count 121 = .ok (.iaload, 1) := dk_46 (dk_at dksX5_count_3 18 rfl rfl)
theorem dX5_count_122 : decode cX5_count 122 = .ok (.aload_n 0, 1) := dk_42 (dk_at dksX5_count_3 19 rfl rfl)
theorem dX5_count_123 : decode cX5_count 123 = .ok (.getfield 7, 3) := dk_180 0 7 (dk_at dksX5_count_3 20 rfl rfl)
theorem dX5_count_126 : decode cX5_count 126 = .ok (.bipush 11, 2) := dk_16 11 (dk_at dksX5_count_4 0 rfl rfl)
theorem dX5_count_128 : decode cX5_count 128 = .ok (.iaload, 1) := dk_46 (dk_at dksX5_count_4 2 rfl rfl)
theorem dX5_count_129 : decode cX5_count 129 = .ok (.iadd, 1) := dk_96 (dk_at dksX5_count_4 3 rfl rfl)
theorem dX5_count_130 : decode cX5_count 130 = .ok (.ireturn, 1) := dk_172 (dk_at dksX5_count_4 4 rfl rfl)
theorem dX5_count_131 : decode cX5_count 131 = .ok (.aload_n 0, 1) := dk_42 (dk_at dksX5_count_4 5 rfl rfl)
theorem dX5_count_132 : decode cX5_count 132 = .ok (.getfield 7, 3) := dk_180 0 7 (dk_at dksX5_count_4 6 rfl rfl)
theorem dX5_count_135 : decode cX5_count 135 = .ok (.bipush 14, 2) := dk_16 14 (dk_at dksX5_count_4 9 rfl rfl)
theorem dX5_count_137 : decode cX5_count 137 = .ok (.iaload, 1) := dk_46 (dk_at dksX5_count_4 11 rfl rfl)
theorem dX5_count_138 : decode cX5_count 138 = .ok (.ireturn, 1) := dk_172 (dk_at dksX5_count_4 12 rfl rfl)
theorem dX5_count_139 : decode cX5_count 139 = .ok (.aload_n 0, 1) := dk_42 (dk_at dksX5_count_4 13 rfl rfl)
theorem dX5_count_140 : decode cX5_count 140 = .ok (.invokevirtual 199, 3) := dk_182 0 199 (dk_at dksX5_count_4 14 rfl rfl)
theorem dX5_count_143 : decode cX5_count 143 = .ok (.ireturn, 1) := dk_172 (dk_at dksX5_count_4 17 rfl rfl)
theorem dX5_count_144 : decode cX5_count 144 = .ok (.aload_n 0, 1) := dk_42 (dk_at dksX5_count_4 18 rfl rfl)
theorem dX5_count_145 : decode cX5_count 145 = .ok (.getfield 7, 3) := dk_180 0 7 (dk_at dksX5_count_4 19 rfl rfl)
theorem dX5_count_148 : decode cX5_count 148 = .ok (.bipush 16, 2) := dk_16 16 (dk_at dksX5_count_4 22 rfl rfl)
theorem dX5_count_150 : decode cX5_count 150 = .ok (.iaload, 1) := dk_46 (dk_at dksX5_count_5 0 rfl rfl)
theorem dX5_count_151 : decode cX5_count 151 = .ok (.ireturn, 1) := dk_172 (dk_at dksX5_count_5 1 rfl rfl)
theorem dX5_count_152 : decode cX5_count 152 = .ok (.aload_n 0, 1) := dk_42 (dk_at dksX5_count_5 2 rfl rfl)
theorem dX5_count_153 : decode cX5_count 153 = .ok (.getfield 7, 3) := dk_180 0 7 (dk_at dksX5_count_5 3 rfl rfl)
theorem dX5_count_156 : decode cX5_count 156 = .ok (.bipush 12, 2) := dk_16 12 (dk_at dksX5_count_5 6 rfl rfl)
theorem dX5_count_158 : decode cX5_count 158 = .ok (.iaload, 1) := dk_46 (dk_at dksX5_count_5 8 rfl rfl)
theorem dX5_count_159 : decode cX5_count 159 = .ok (.aload_n 0, 1) := dk_42 (dk_at dksX5_count_5 9 rfl rfl)
theorem dX5_count_160 : decode cX5_count 160 = .ok (.getfield 7, 3) := dk_180 0 7 (dk_at dksX5_count_5 10 rfl rfl)
theorem dX5_count_163 : decode cX5_count 163 = .ok (.bipush 13, 2) := dk_16 13 (dk_at dksX5_count_5 13 rfl rfl)
theorem dX5_count_165 : decode cX5_count 165 = .ok (.iaload, 1) := dk_46 (dk_at dksX5_count_5 15 rfl rfl)
theorem dX5_count_166 : decode cX5_count 166 = .ok (.iadd, 1) := dk_96 (dk_at dksX5_count_5 16 rfl rfl)
theorem dX5_count_167 : decode cX5_count 167 = .ok (.ireturn, 1) := dk_172 (dk_at dksX5_count_5 17 rfl rfl)
theorem dX5_count_168 : decode cX5_count 168 = .ok (.aload_n 0, 1) := dk_42 (dk_at dksX5_count_5 18 rfl rfl)
theorem dX5_count_169 : decode cX5_count 169 = .ok (.getfield 7, 3) := dk_180 0 7 (dk_at dksX5_count_5 19 rfl rfl)
theorem dX5_count_172 : decode cX5_count 172 = .ok (.bipush 15, 2) := dk_16 15 (dk_at dksX5_count_5 22 rfl rfl)
theorem dX5_count_174 : decode cX5_count 174 = .ok (.iaload, 1) := dk_46 (dk_at dksX5_count_6 0 rfl rfl)
theorem dX5_count_175 : decode cX5_count 175 = .ok (.ireturn, 1) := dk_172 (dk_at dksX5_count_6 1 rfl rfl)
theorem dX5_count_176 : decode cX5_count 176 = .ok (.aload_n 0, 1) := dk_42 (dk_at dksX5_count_6 2 rfl rfl)
theorem dX5_count_177 : decode cX5_count 177 = .ok (.getfield 7, 3) := dk_180 0 7 (dk_at dksX5_count_6 3 rfl rfl)
theorem dX5_count_180 : decode cX5_count 180 = .ok (.iconst 2, 1) := dk_5 (dk_at dksX5_count_6 6 rfl rfl)
theorem dX5_count_181 : decode cX5_count 181 = .ok (.iaload, 1) := dk_46 (dk_at dksX5_count_6 7 rfl rfl)
theorem dX5_count_182 : decode cX5_count 182 = .ok (.aload_n 0, 1) := dk_42 (dk_at dksX5_count_6 8 rfl rfl)
theorem dX5_count_183 : decode cX5_count 183 = .ok (.getfield 7, 3) := dk_180 0 7 (dk_at dksX5_count_6 9 rfl rfl)
theorem dX5_count_186 : decode cX5_count 186 = .ok (.iconst 0, 1) := dk_3 (dk_at dksX5_count_6 12 rfl rfl)
theorem dX5_count_187 : decode cX5_count 187 = .ok (.iaload, 1) := dk_46 (dk_at dksX5_count_6 13 rfl rfl)
theorem dX5_count_188 : decode cX5_count 188 = .ok (.irem, 1) := dk_112 (dk_at dksX5_count_6 14 rfl rfl)
theorem dX5_count_189 : decode cX5_count 189 = .ok (.ireturn, 1) := dk_172 (dk_at dksX5_count_6 15 rfl rfl)
theorem dX5_count_190 : decode cX5_count 190 = .ok (.aload_n 0, 1) := dk_42 (dk_at dksX5_count_6 16 rfl rfl)
theorem dX5_count_191 : decode cX5_count 191 = .ok (.getfield 47, 3) := dk_180 0 47 (dk_at dksX5_count_6 17 rfl rfl)
theorem dX5_count_194 : decode cX5_count 194 = .ok (.ireturn, 1) := dk_172 (dk_at dksX5_count_6 20 rfl rfl)
theorem dX5_count_195 : decode cX5_count 195 = .ok (.aload_n 0, 1) := dk_42 (dk_at dksX5_count_6 21 rfl rfl)
theorem dX5_count_196 : decode cX5_count 196 = .ok (.getfield 168, 3) := dk_180 0 168 (dk_at dksX5_count_7 0 rfl rfl)
theorem dX5_count_199 : decode cX5_count 199 = .ok (.ireturn, 1) := dk_172 (dk_at dksX5_count_7 3 rfl rfl)
theorem dX5_count_200 : decode cX5_count 200 = .ok (.bipush (-2), 2) := dk_16 254 (dk_at dksX5_count_7 4 rfl rfl)
theorem dX5_count_202 : decode cX5_count 202 = .ok (.ireturn, 1) := dk_172 (dk_at dksX5_count_7 6 rfl rfl)
abbrev cX5_keysThat : ByteArray := prog_11_method_63_code
def yX5_keysThat : MethodName := ⟨RX5, "keysThat", "(I)I"⟩
def dkwX5_keysThat_3 : List UInt8 := [153, 0, 7, 4, 167, 0, 4, 3, 96, 61, 132, 3, 1, 167, 255, 178, 28, 172]
abbrev dktX5_keysThat_3 : List UInt8 := dkwX5_keysThat_3 ++ []
def dkwX5_keysThat_2 : List UInt8 := [42, 180, 0, 7, 16, 116, 29, 96, 46, 4, 160, 0, 7, 4, 167, 0, 4, 3, 54, 4, 28, 21, 4]
abbrev dktX5_keysThat_2 : List UInt8 := dkwX5_keysThat_2 ++ dktX5_keysThat_3
def dkwX5_keysThat_1 : List UInt8 := [167, 0, 42, 27, 7, 160, 0, 11, 42, 29, 182, 0, 76, 167, 0, 29, 42, 29, 182, 0, 76, 153, 0, 20]
abbrev dktX5_keysThat_1 : List UInt8 := dkwX5_keysThat_1 ++ dktX5_keysThat_2
def dkwX5_keysThat_0 : List UInt8 := [3, 61, 3, 62, 29, 42, 182, 0, 64, 162, 0, 76, 27, 6, 160, 0, 11, 42, 29, 182, 0, 72]
abbrev dktX5_keysThat_0 : List UInt8 := dkwX5_keysThat_0 ++ dktX5_keysThat_1
theorem dksX5_keysThat_0 : cX5_keysThat.data.toList.drop 0 = dktX5_keysThat_0 := by decide +kernel
theorem dksX5_keysThat_1 : cX5_keysThat.data.toList.drop 22 = dktX5_keysThat_1 := dk_seg dksX5_keysThat_0 22 rfl rfl
theorem dksX5_keysThat_2 : cX5_keysThat.data.toList.drop 46 = dktX5_keysThat_2 := dk_seg dksX5_keysThat_1 24 rfl rfl
theorem dksX5_keysThat_3 : cX5_keysThat.data.toList.drop 69 = dktX5_keysThat_3 := dk_seg dksX5_keysThat_2 23 rfl rfl
theorem dX5_keysThat_0 : decode cX5_keysThat 0 = .ok (.iconst 0, 1) := dk_3 (dk_at dksX5_keysThat_0 0 rfl rfl)
theorem dX5_keysThat_1 : decode cX5_keysThat 1 = .ok (.istore_n 2, 1) := dk_61 (dk_at dksX5_keysThat_0 1 rfl rfl)
theorem dX5_keysThat_2 : decode cX5_keysThat 2 = .ok (.iconst 0, 1) := dk_3 (dk_at dksX5_keysThat_0 2 rfl rfl)
theorem dX5_keysThat_3 : decode cX5_keysThat 3 = .ok (.istore_n 3, 1) := dk_62 (dk_at dksX5_keysThat_0 3 rfl rfl)
theorem dX5_keysThat_4 : decode cX5_keysThat 4 = .ok (.iload_n 3, 1) := dk_29 (dk_at dksX5_keysThat_0 4 rfl rfl)
theorem dX5_keysThat_5 : decode cX5_keysThat 5 = .ok (.aload_n 0, 1) := dk_42 (dk_at dksX5_keysThat_0 5 rfl rfl)
theorem dX5_keysThat_6 : decode cX5_keysThat 6 = .ok (.invokevirtual 64, 3) := dk_182 0 64 (dk_at dksX5_keysThat_0 6 rfl rfl)
theorem dX5_keysThat_9 : decode cX5_keysThat 9 = .ok (.if_icmp .ge 76, 3) := dk_162 0 76 (dk_at dksX5_keysThat_0 9 rfl rfl)
theorem dX5_keysThat_12 : decode cX5_keysThat 12 = .ok (.iload_n 1, 1) := dk_27 (dk_at dksX5_keysThat_0 12 rfl rfl)
theorem dX5_keysThat_13 : decode cX5_keysThat 13 = .ok (.iconst 3, 1) := dk_6 (dk_at dksX5_keysThat_0 13 rfl rfl)
theorem dX5_keysThat_14 : decode cX5_keysThat 14 = .ok (.if_icmp .ne 11, 3) := dk_160 0 11 (dk_at dksX5_keysThat_0 14 rfl rfl)
theorem dX5_keysThat_17 : decode cX5_keysThat 17 = .ok (.aload_n 0, 1) := dk_42 (dk_at dksX5_keysThat_0 17 rfl rfl)
theorem dX5_keysThat_18 : decode cX5_keysThat 18 = .ok (.iload_n 3, 1) := dk_29 (dk_at dksX5_keysThat_0 18 rfl rfl)
theorem dX5_keysThat_19 : decode cX5_keysThat 19 = .ok (.invokevirtual 72, 3) := dk_182 0 72 (dk_at dksX5_keysThat_0 19 rfl rfl)
theorem dX5_keysThat_22 : decode cX5_keysThat 22 = .ok (.goto 42, 3) := dk_167 0 42 (dk_at dksX5_keysThat_1 0 rfl rfl)
theorem dX5_keysThat_25 : decode cX5_keysThat 25 = .ok (.iload_n 1, 1) := dk_27 (dk_at dksX5_keysThat_1 3 rfl rfl)
theorem dX5_keysThat_26 : decode cX5_keysThat 26 = .ok (.iconst 4, 1) := dk_7 (dk_at dksX5_keysThat_1 4 rfl rfl)
theorem dX5_keysThat_27 : decode cX5_keysThat 27 = .ok (.if_icmp .ne 11, 3) := dk_160 0 11 (dk_at dksX5_keysThat_1 5 rfl rfl)
theorem dX5_keysThat_30 : decode cX5_keysThat 30 = .ok (.aload_n 0, 1) := dk_42 (dk_at dksX5_keysThat_1 8 rfl rfl)
theorem dX5_keysThat_31 : decode cX5_keysThat 31 = .ok (.iload_n 3, 1) := dk_29 (dk_at dksX5_keysThat_1 9 rfl rfl)
theorem dX5_keysThat_32 : decode cX5_keysThat 32 = .ok (.invokevirtual 76, 3) := dk_182 0 76 (dk_at dksX5_keysThat_1 10 rfl rfl)
theorem dX5_keysThat_35 : decode cX5_keysThat 35 = .ok (.goto 29, 3) := dk_167 0 29 (dk_at dksX5_keysThat_1 13 rfl rfl)
theorem dX5_keysThat_38 : decode cX5_keysThat 38 = .ok (.aload_n 0, 1) := dk_42 (dk_at dksX5_keysThat_1 16 rfl rfl)
theorem dX5_keysThat_39 : decode cX5_keysThat 39 = .ok (.iload_n 3, 1) := dk_29 (dk_at dksX5_keysThat_1 17 rfl rfl)
theorem dX5_keysThat_40 : decode cX5_keysThat 40 = .ok (.invokevirtual 76, 3) := dk_182 0 76 (dk_at dksX5_keysThat_1 18 rfl rfl)
theorem dX5_keysThat_43 : decode cX5_keysThat 43 = .ok (.ifCond .eq 20, 3) := dk_153 0 20 (dk_at dksX5_keysThat_1 21 rfl rfl)
theorem dX5_keysThat_46 : decode cX5_keysThat 46 = .ok (.aload_n 0, 1) := dk_42 (dk_at dksX5_keysThat_2 0 rfl rfl)
theorem dX5_keysThat_47 : decode cX5_keysThat 47 = .ok (.getfield 7, 3) := dk_180 0 7 (dk_at dksX5_keysThat_2 1 rfl rfl)
theorem dX5_keysThat_50 : decode cX5_keysThat 50 = .ok (.bipush 116, 2) := dk_16 116 (dk_at dksX5_keysThat_2 4 rfl rfl)
theorem dX5_keysThat_52 : decode cX5_keysThat 52 = .ok (.iload_n 3, 1) := dk_29 (dk_at dksX5_keysThat_2 6 rfl rfl)
theorem dX5_keysThat_53 : decode cX5_keysThat 53 = .ok (.iadd, 1) := dk_96 (dk_at dksX5_keysThat_2 7 rfl rfl)
theorem dX5_keysThat_54 : decode cX5_keysThat 54 = .ok (.iaload, 1) := dk_46 (dk_at dksX5_keysThat_2 8 rfl rfl)
theorem dX5_keysThat_55 : decode cX5_keysThat 55 = .ok (.iconst 1, 1) := dk_4 (dk_at dksX5_keysThat_2 9 rfl rfl)
theorem dX5_keysThat_56 : decode cX5_keysThat 56 = .ok (.if_icmp .ne 7, 3) := dk_160 0 7 (dk_at dksX5_keysThat_2 10 rfl rfl)
theorem dX5_keysThat_59 : decode cX5_keysThat 59 = .ok (.iconst 1, 1) := dk_4 (dk_at dksX5_keysThat_2 13 rfl rfl)
theorem dX5_keysThat_60 : decode cX5_keysThat 60 = .ok (.goto 4, 3) := dk_167 0 4 (dk_at dksX5_keysThat_2 14 rfl rfl)
theorem dX5_keysThat_63 : decode cX5_keysThat 63 = .ok (.iconst 0, 1) := dk_3 (dk_at dksX5_keysThat_2 17 rfl rfl)
theorem dX5_keysThat_64 : decode cX5_keysThat 64 = .ok (.istore 4, 2) := dk_54 4 (dk_at dksX5_keysThat_2 18 rfl rfl)
theorem dX5_keysThat_66 : decode cX5_keysThat 66 = .ok (.iload_n 2, 1) := dk_28 (dk_at dksX5_keysThat_2 20 rfl rfl)
theorem dX5_keysThat_67 : decode cX5_keysThat 67 = .ok (.iload 4, 2) := dk_21 4 (dk_at dksX5_keysThat_2 21 rfl rfl)
theorem dX5_keysThat_69 : decode cX5_keysThat 69 = .ok (.ifCond .eq 7, 3) := dk_153 0 7 (dk_at dksX5_keysThat_3 0 rfl rfl)
theorem dX5_keysThat_72 : decode cX5_keysThat 72 = .ok (.iconst 1, 1) := dk_4 (dk_at dksX5_keysThat_3 3 rfl rfl)
theorem dX5_keysThat_73 : decode cX5_keysThat 73 = .ok (.goto 4, 3) := dk_167 0 4 (dk_at dksX5_keysThat_3 4 rfl rfl)
theorem dX5_keysThat_76 : decode cX5_keysThat 76 = .ok (.iconst 0, 1) := dk_3 (dk_at dksX5_keysThat_3 7 rfl rfl)
theorem dX5_keysThat_77 : decode cX5_keysThat 77 = .ok (.iadd, 1) := dk_96 (dk_at dksX5_keysThat_3 8 rfl rfl)
theorem dX5_keysThat_78 : decode cX5_keysThat 78 = .ok (.istore_n 2, 1) := dk_61 (dk_at dksX5_keysThat_3 9 rfl rfl)
theorem dX5_keysThat_79 : decode cX5_keysThat 79 = .ok (.iinc 3 1, 3) := dk_132 3 1 (dk_at dksX5_keysThat_3 10 rfl rfl)
theorem dX5_keysThat_82 : decode cX5_keysThat 82 = .ok (.goto (-78), 3) := dk_167 255 178 (dk_at dksX5_keysThat_3 13 rfl rfl)
theorem dX5_keysThat_85 : decode cX5_keysThat 85 = .ok (.iload_n 2, 1) := dk_28 (dk_at dksX5_keysThat_3 16 rfl rfl)
theorem dX5_keysThat_86 : decode cX5_keysThat 86 = .ok (.ireturn, 1) := dk_172 (dk_at dksX5_keysThat_3 17 rfl rfl)
abbrev cX5_openDisputes : ByteArray := prog_11_method_62_code
def yX5_openDisputes : MethodName := ⟨RX5, "openDisputes", "()I"⟩
def dkwX5_openDisputes_2 : List UInt8 := [27, 172]
abbrev dktX5_openDisputes_2 : List UInt8 := dkwX5_openDisputes_2 ++ []
def dkwX5_openDisputes_1 : List UInt8 := [16, 7, 28, 104, 96, 6, 96, 46, 156, 0, 7, 4, 167, 0, 4, 3, 96, 60, 132, 2, 1, 167, 255, 216]
abbrev dktX5_openDisputes_1 : List UInt8 := dkwX5_openDisputes_1 ++ dktX5_openDisputes_2
def dkwX5_openDisputes_0 : List UInt8 := [3, 60, 3, 61, 28, 42, 180, 0, 7, 16, 16, 46, 162, 0, 35, 27, 42, 180, 0, 7, 17, 1, 148]
abbrev dktX5_openDisputes_0 : List UInt8 := dkwX5_openDisputes_0 ++ dktX5_openDisputes_1
theorem dksX5_openDisputes_0 : cX5_openDisputes.data.toList.drop 0 = dktX5_openDisputes_0 := by decide +kernel
theorem dksX5_openDisputes_1 : cX5_openDisputes.data.toList.drop 23 = dktX5_openDisputes_1 := dk_seg dksX5_openDisputes_0 23 rfl rfl
theorem dksX5_openDisputes_2 : cX5_openDisputes.data.toList.drop 47 = dktX5_openDisputes_2 := dk_seg dksX5_openDisputes_1 24 rfl rfl
theorem dX5_openDisputes_0 : decode cX5_openDisputes 0 = .ok (.iconst 0, 1) := dk_3 (dk_at dksX5_openDisputes_0 0 rfl rfl)
theorem dX5_openDisputes_1 : decode cX5_openDisputes 1 = .ok (.istore_n 1, 1) := dk_60 (dk_at dksX5_openDisputes_0 1 rfl rfl)
theorem dX5_openDisputes_2 : decode cX5_openDisputes 2 = .ok (.iconst 0, 1) := dk_3 (dk_at dksX5_openDisputes_0 2 rfl rfl)
theorem dX5_openDisputes_3 : decode cX5_openDisputes 3 = .ok (.istore_n 2, 1) := dk_61 (dk_at dksX5_openDisputes_0 3 rfl rfl)
theorem dX5_openDisputes_4 : decode cX5_openDisputes 4 = .ok (.iload_n 2, 1) := dk_28 (dk_at dksX5_openDisputes_0 4 rfl rfl)
theorem dX5_openDisputes_5 : decode cX5_openDisputes 5 = .ok (.aload_n 0, 1) := dk_42 (dk_at dksX5_openDisputes_0 5 rfl rfl)
theorem dX5_openDisputes_6 : decode cX5_openDisputes 6 = .ok (.getfield 7, 3) := dk_180 0 7 (dk_at dksX5_openDisputes_0 6 rfl rfl)
theorem dX5_openDisputes_9 : decode cX5_openDisputes 9 = .ok (.bipush 16, 2) := dk_16 16 (dk_at dksX5_openDisputes_0 9 rfl rfl)
theorem dX5_openDisputes_11 : decode cX5_openDisputes 11 = .ok (.iaload, 1) := dk_46 (dk_at dksX5_openDisputes_0 11 rfl rfl)
theorem dX5_openDisputes_12 : decode cX5_openDisputes 12 = .ok (.if_icmp .ge 35, 3) := dk_162 0 35 (dk_at dksX5_openDisputes_0 12 rfl rfl)
theorem dX5_openDisputes_15 : decode cX5_openDisputes 15 = .ok (.iload_n 1, 1) := dk_27 (dk_at dksX5_openDisputes_0 15 rfl rfl)
theorem dX5_openDisputes_16 : decode cX5_openDisputes 16 = .ok (.aload_n 0, 1) := dk_42 (dk_at dksX5_openDisputes_0 16 rfl rfl)
theorem dX5_openDisputes_17 : decode cX5_openDisputes 17 = .ok (.getfield 7, 3) := dk_180 0 7 (dk_at dksX5_openDisputes_0 17 rfl rfl)
theorem dX5_openDisputes_20 : decode cX5_openDisputes 20 = .ok (.sipush 404, 3) := dk_17 1 148 (dk_at dksX5_openDisputes_0 20 rfl rfl)
theorem dX5_openDisputes_23 : decode cX5_openDisputes 23 = .ok (.bipush 7, 2) := dk_16 7 (dk_at dksX5_openDisputes_1 0 rfl rfl)
theorem dX5_openDisputes_25 : decode cX5_openDisputes 25 = .ok (.iload_n 2, 1) := dk_28 (dk_at dksX5_openDisputes_1 2 rfl rfl)
theorem dX5_openDisputes_26 : decode cX5_openDisputes 26 = .ok (.imul, 1) := dk_104 (dk_at dksX5_openDisputes_1 3 rfl rfl)
theorem dX5_openDisputes_27 : decode cX5_openDisputes 27 = .ok (.iadd, 1) := dk_96 (dk_at dksX5_openDisputes_1 4 rfl rfl)
theorem dX5_openDisputes_28 : decode cX5_openDisputes 28 = .ok (.iconst 3, 1) := dk_6 (dk_at dksX5_openDisputes_1 5 rfl rfl)
theorem dX5_openDisputes_29 : decode cX5_openDisputes 29 = .ok (.iadd, 1) := dk_96 (dk_at dksX5_openDisputes_1 6 rfl rfl)
theorem dX5_openDisputes_30 : decode cX5_openDisputes 30 = .ok (.iaload, 1) := dk_46 (dk_at dksX5_openDisputes_1 7 rfl rfl)
theorem dX5_openDisputes_31 : decode cX5_openDisputes 31 = .ok (.ifCond .ge 7, 3) := dk_156 0 7 (dk_at dksX5_openDisputes_1 8 rfl rfl)
theorem dX5_openDisputes_34 : decode cX5_openDisputes 34 = .ok (.iconst 1, 1) := dk_4 (dk_at dksX5_openDisputes_1 11 rfl rfl)
theorem dX5_openDisputes_35 : decode cX5_openDisputes 35 = .ok (.goto 4, 3) := dk_167 0 4 (dk_at dksX5_openDisputes_1 12 rfl rfl)
theorem dX5_openDisputes_38 : decode cX5_openDisputes 38 = .ok (.iconst 0, 1) := dk_3 (dk_at dksX5_openDisputes_1 15 rfl rfl)
theorem dX5_openDisputes_39 : decode cX5_openDisputes 39 = .ok (.iadd, 1) := dk_96 (dk_at dksX5_openDisputes_1 16 rfl rfl)
theorem dX5_openDisputes_40 : decode cX5_openDisputes 40 = .ok (.istore_n 1, 1) := dk_60 (dk_at dksX5_openDisputes_1 17 rfl rfl)
theorem dX5_openDisputes_41 : decode cX5_openDisputes 41 = .ok (.iinc 2 1, 3) := dk_132 2 1 (dk_at dksX5_openDisputes_1 18 rfl rfl)
theorem dX5_openDisputes_44 : decode cX5_openDisputes 44 = .ok (.goto (-40), 3) := dk_167 255 216 (dk_at dksX5_openDisputes_1 21 rfl rfl)
theorem dX5_openDisputes_47 : decode cX5_openDisputes 47 = .ok (.iload_n 1, 1) := dk_27 (dk_at dksX5_openDisputes_2 0 rfl rfl)
theorem dX5_openDisputes_48 : decode cX5_openDisputes 48 = .ok (.ireturn, 1) := dk_172 (dk_at dksX5_openDisputes_2 1 rfl rfl)
theorem q73 : (Jvm.Cond.initialized "BlanketKeysModel") ∈ lw_all := lw_g (lw_at lw_m1 17 rfl) rfl
theorem q220 : (Jvm.Cond.selects "BlanketKeysModel" ({ cls := "java/lang/Object", name := "getClass", desc := "()Ljava/lang/Class;" } : Jvm.MethodName) ({ cls := "java/lang/Object", name := "getClass", desc := "()Ljava/lang/Class;" } : Jvm.MethodName)) ∈ lw_all := lw_g (lw_at lw_m1 164 rfl) rfl
theorem q1121 : (Jvm.Cond.instantiable "BlanketKeysModel" (15 : Nat)) ∈ lw_all := lw_g (lw_at lw_m5 105 rfl) rfl
theorem q1123 : (Jvm.Cond.instanceMethod ({ cls := "BlanketKeysModel", name := "<init>", desc := "()V" } : Jvm.MethodName)) ∈ lw_all := lw_g (lw_at lw_m5 107 rfl) rfl
theorem q1124 : (Jvm.Cond.code ({ cls := "BlanketKeysModel", name := "<init>", desc := "()V" } : Jvm.MethodName) prog_11_method_1_code (2 : Nat) (Option.none : Option Jvm.ClassFile.FieldType)) ∈ lw_all := lw_g (lw_at lw_m5 108 rfl) rfl
theorem q1125 : (Jvm.Cond.methodLink "BlanketKeysModel" (1 : Nat) ({ cls := "java/lang/Object", name := "<init>", desc := "()V" } : Jvm.MethodName)) ∈ lw_all := lw_g (lw_at lw_m5 109 rfl) rfl
theorem q1126 : (Jvm.Cond.constantFloat "BlanketKeysModel" (39 : Nat) (1082130432 : UInt32)) ∈ lw_all := lw_g (lw_at lw_m5 110 rfl) rfl
theorem q1127 : (Jvm.Cond.constantFloat "BlanketKeysModel" (40 : Nat) (1086324736 : UInt32)) ∈ lw_all := lw_g (lw_at lw_m5 111 rfl) rfl
theorem q1128 : (Jvm.Cond.constantFloat "BlanketKeysModel" (41 : Nat) (1040187392 : UInt32)) ∈ lw_all := lw_g (lw_at lw_m5 112 rfl) rfl
theorem q1129 : (Jvm.Cond.constantFloat "BlanketKeysModel" (42 : Nat) (1056964608 : UInt32)) ∈ lw_all := lw_g (lw_at lw_m5 113 rfl) rfl
theorem q1130 : (Jvm.Cond.constantFloat "BlanketKeysModel" (43 : Nat) (1048576000 : UInt32)) ∈ lw_all := lw_g (lw_at lw_m5 114 rfl) rfl
theorem q1131 : (Jvm.Cond.methodLink "BlanketKeysModel" (44 : Nat) ({ cls := "BlanketKeysModel", name := "clearKeys", desc := "()V" } : Jvm.MethodName)) ∈ lw_all := lw_g (lw_at lw_m5 115 rfl) rfl
theorem q1132 : (Jvm.Cond.privateMethod ({ cls := "BlanketKeysModel", name := "clearKeys", desc := "()V" } : Jvm.MethodName)) ∈ lw_tbl := lw_at lw_m5 116 rfl
theorem q1133 : (Jvm.Cond.instanceMethod ({ cls := "BlanketKeysModel", name := "clearKeys", desc := "()V" } : Jvm.MethodName)) ∈ lw_all := lw_g (lw_at lw_m5 117 rfl) rfl
theorem q1134 : (Jvm.Cond.code ({ cls := "BlanketKeysModel", name := "clearKeys", desc := "()V" } : Jvm.MethodName) prog_11_method_2_code (2 : Nat) (Option.none : Option Jvm.ClassFile.FieldType)) ∈ lw_all := lw_g (lw_at lw_m5 118 rfl) rfl
theorem q1135 : (Jvm.Cond.fieldLink "BlanketKeysModel" (7 : Nat) "BlanketKeysModel" "row" "[I") ∈ lw_all := lw_g (lw_at lw_m5 119 rfl) rfl
theorem q1136 : (Jvm.Cond.fieldLink "BlanketKeysModel" (13 : Nat) "BlanketKeysModel" "past" "[I") ∈ lw_all := lw_g (lw_at lw_m5 120 rfl) rfl
theorem q1137 : (Jvm.Cond.fieldLink "BlanketKeysModel" (16 : Nat) "BlanketKeysModel" "aside" "[I") ∈ lw_all := lw_g (lw_at lw_m5 121 rfl) rfl
theorem q1138 : (Jvm.Cond.fieldLink "BlanketKeysModel" (19 : Nat) "BlanketKeysModel" "before" "[I") ∈ lw_all := lw_g (lw_at lw_m5 122 rfl) rfl
theorem q1139 : (Jvm.Cond.fieldLink "BlanketKeysModel" (22 : Nat) "BlanketKeysModel" "style" "[F") ∈ lw_all := lw_g (lw_at lw_m5 123 rfl) rfl
theorem q1140 : (Jvm.Cond.fieldLink "BlanketKeysModel" (26 : Nat) "BlanketKeysModel" "pastStyle" "[F") ∈ lw_all := lw_g (lw_at lw_m5 124 rfl) rfl
theorem q1141 : (Jvm.Cond.fieldLink "BlanketKeysModel" (29 : Nat) "BlanketKeysModel" "asideStyle" "[F") ∈ lw_all := lw_g (lw_at lw_m5 125 rfl) rfl
theorem q1142 : (Jvm.Cond.fieldLink "BlanketKeysModel" (32 : Nat) "BlanketKeysModel" "beforeStyle" "[F") ∈ lw_all := lw_g (lw_at lw_m5 126 rfl) rfl
theorem q1143 : (Jvm.Cond.fieldLink "BlanketKeysModel" (47 : Nat) "BlanketKeysModel" "states" "I") ∈ lw_all := lw_g (lw_at lw_m5 127 rfl) rfl
theorem q1144 : (Jvm.Cond.fieldLink "BlanketKeysModel" (57 : Nat) "BlanketKeysModel" "isAside" "Z") ∈ lw_all := lw_g (lw_at lw_m5 128 rfl) rfl
theorem q1145 : (Jvm.Cond.fieldLink "BlanketKeysModel" (35 : Nat) "BlanketKeysModel" "text" "[C") ∈ lw_all := lw_g (lw_at lw_m5 129 rfl) rfl
theorem q1146 : (Jvm.Cond.fieldLink "BlanketKeysModel" (168 : Nat) "BlanketKeysModel" "length" "I") ∈ lw_all := lw_g (lw_at lw_m5 130 rfl) rfl
theorem q1147 : (Jvm.Cond.fieldLink "BlanketKeysModel" (171 : Nat) "BlanketKeysModel" "at" "I") ∈ lw_all := lw_g (lw_at lw_m5 131 rfl) rfl
theorem q1148 : (Jvm.Cond.fieldLink "BlanketKeysModel" (104 : Nat) "BlanketKeysModel" "columnsNow" "I") ∈ lw_all := lw_g (lw_at lw_m5 132 rfl) rfl
theorem q1149 : (Jvm.Cond.fieldLink "BlanketKeysModel" (101 : Nat) "BlanketKeysModel" "rowsNow" "I") ∈ lw_all := lw_g (lw_at lw_m5 133 rfl) rfl
theorem q1150 : (Jvm.Cond.laysFinal "BlanketKeysModel" "BlanketKeysModel" "row" "[I") ∈ lw_all := lw_g (lw_at lw_m5 134 rfl) rfl
theorem q1151 : (Jvm.Cond.soleField "BlanketKeysModel" "row") ∈ lw_all := lw_g (lw_at lw_m5 135 rfl) rfl
theorem q1152 : (Jvm.Cond.laysFinal "BlanketKeysModel" "BlanketKeysModel" "past" "[I") ∈ lw_all := lw_g (lw_at lw_m5 136 rfl) rfl
theorem q1153 : (Jvm.Cond.soleField "BlanketKeysModel" "past") ∈ lw_all := lw_g (lw_at lw_m5 137 rfl) rfl
theorem q1154 : (Jvm.Cond.laysFinal "BlanketKeysModel" "BlanketKeysModel" "aside" "[I") ∈ lw_all := lw_g (lw_at lw_m5 138 rfl) rfl
theorem q1155 : (Jvm.Cond.soleField "BlanketKeysModel" "aside") ∈ lw_all := lw_g (lw_at lw_m5 139 rfl) rfl
theorem q1156 : (Jvm.Cond.laysFinal "BlanketKeysModel" "BlanketKeysModel" "before" "[I") ∈ lw_all := lw_g (lw_at lw_m5 140 rfl) rfl
theorem q1157 : (Jvm.Cond.soleField "BlanketKeysModel" "before") ∈ lw_all := lw_g (lw_at lw_m5 141 rfl) rfl
theorem q1158 : (Jvm.Cond.laysFinal "BlanketKeysModel" "BlanketKeysModel" "style" "[F") ∈ lw_all := lw_g (lw_at lw_m5 142 rfl) rfl
theorem q1159 : (Jvm.Cond.soleField "BlanketKeysModel" "style") ∈ lw_all := lw_g (lw_at lw_m5 143 rfl) rfl
theorem q1160 : (Jvm.Cond.laysFinal "BlanketKeysModel" "BlanketKeysModel" "pastStyle" "[F") ∈ lw_all := lw_g (lw_at lw_m5 144 rfl) rfl
theorem q1161 : (Jvm.Cond.soleField "BlanketKeysModel" "pastStyle") ∈ lw_all := lw_g (lw_at lw_m5 145 rfl) rfl
theorem q1162 : (Jvm.Cond.laysFinal "BlanketKeysModel" "BlanketKeysModel" "asideStyle" "[F") ∈ lw_all := lw_g (lw_at lw_m5 146 rfl) rfl
theorem q1163 : (Jvm.Cond.soleField "BlanketKeysModel" "asideStyle") ∈ lw_all := lw_g (lw_at lw_m5 147 rfl) rfl
theorem q1164 : (Jvm.Cond.laysFinal "BlanketKeysModel" "BlanketKeysModel" "beforeStyle" "[F") ∈ lw_all := lw_g (lw_at lw_m5 148 rfl) rfl
theorem q1165 : (Jvm.Cond.soleField "BlanketKeysModel" "beforeStyle") ∈ lw_all := lw_g (lw_at lw_m5 149 rfl) rfl
theorem q1166 : (Jvm.Cond.lays "BlanketKeysModel" "BlanketKeysModel" "states" "I") ∈ lw_all := lw_g (lw_at lw_m5 150 rfl) rfl
theorem q1167 : (Jvm.Cond.soleField "BlanketKeysModel" "states") ∈ lw_all := lw_g (lw_at lw_m5 151 rfl) rfl
theorem q1168 : (Jvm.Cond.lays "BlanketKeysModel" "BlanketKeysModel" "isAside" "Z") ∈ lw_all := lw_g (lw_at lw_m5 152 rfl) rfl
theorem q1169 : (Jvm.Cond.soleField "BlanketKeysModel" "isAside") ∈ lw_all := lw_g (lw_at lw_m5 153 rfl) rfl
theorem q1170 : (Jvm.Cond.laysFinal "BlanketKeysModel" "BlanketKeysModel" "text" "[C") ∈ lw_all := lw_g (lw_at lw_m5 154 rfl) rfl
theorem q1171 : (Jvm.Cond.soleField "BlanketKeysModel" "text") ∈ lw_all := lw_g (lw_at lw_m5 155 rfl) rfl
theorem q1172 : (Jvm.Cond.lays "BlanketKeysModel" "BlanketKeysModel" "length" "I") ∈ lw_all := lw_g (lw_at lw_m5 156 rfl) rfl
theorem q1173 : (Jvm.Cond.soleField "BlanketKeysModel" "length") ∈ lw_all := lw_g (lw_at lw_m5 157 rfl) rfl
theorem q1174 : (Jvm.Cond.lays "BlanketKeysModel" "BlanketKeysModel" "at" "I") ∈ lw_all := lw_g (lw_at lw_m5 158 rfl) rfl
theorem q1175 : (Jvm.Cond.soleField "BlanketKeysModel" "at") ∈ lw_all := lw_g (lw_at lw_m5 159 rfl) rfl
theorem q1176 : (Jvm.Cond.lays "BlanketKeysModel" "BlanketKeysModel" "columnsNow" "I") ∈ lw_all := lw_g (lw_at lw_m5 160 rfl) rfl
theorem q1177 : (Jvm.Cond.soleField "BlanketKeysModel" "columnsNow") ∈ lw_all := lw_g (lw_at lw_m5 161 rfl) rfl
theorem q1178 : (Jvm.Cond.lays "BlanketKeysModel" "BlanketKeysModel" "rowsNow" "I") ∈ lw_all := lw_g (lw_at lw_m5 162 rfl) rfl
theorem q1179 : (Jvm.Cond.soleField "BlanketKeysModel" "rowsNow") ∈ lw_all := lw_g (lw_at lw_m5 163 rfl) rfl
theorem q1180 : (Jvm.Cond.superclass "BlanketKeysModel" "java/lang/Object") ∈ lw_all := lw_g (lw_at lw_m5 164 rfl) rfl
theorem q1183 : (Jvm.Cond.instanceMethod ({ cls := "BlanketKeysModel", name := "undo", desc := "()I" } : Jvm.MethodName)) ∈ lw_all := lw_g (lw_at lw_m5 167 rfl) rfl
theorem q1184 : (Jvm.Cond.selects "BlanketKeysModel" ({ cls := "BlanketKeysModel", name := "undo", desc := "()I" } : Jvm.MethodName) ({ cls := "BlanketKeysModel", name := "undo", desc := "()I" } : Jvm.MethodName)) ∈ lw_all := lw_g (lw_at lw_m5 168 rfl) rfl
theorem q1185 : (Jvm.Cond.code ({ cls := "BlanketKeysModel", name := "undo", desc := "()I" } : Jvm.MethodName) prog_11_method_8_code (2 : Nat) (Option.some Jvm.ClassFile.FieldType.int)) ∈ lw_all := lw_g (lw_at lw_m5 169 rfl) rfl
theorem q1187 : (Jvm.Cond.instanceMethod ({ cls := "BlanketKeysModel", name := "keep", desc := "()I" } : Jvm.MethodName)) ∈ lw_all := lw_g (lw_at lw_m5 171 rfl) rfl
theorem q1188 : (Jvm.Cond.selects "BlanketKeysModel" ({ cls := "BlanketKeysModel", name := "keep", desc := "()I" } : Jvm.MethodName) ({ cls := "BlanketKeysModel", name := "keep", desc := "()I" } : Jvm.MethodName)) ∈ lw_all := lw_g (lw_at lw_m5 172 rfl) rfl
theorem q1189 : (Jvm.Cond.code ({ cls := "BlanketKeysModel", name := "keep", desc := "()I" } : Jvm.MethodName) prog_11_method_9_code (2 : Nat) (Option.some Jvm.ClassFile.FieldType.int)) ∈ lw_all := lw_g (lw_at lw_m5 173 rfl) rfl
theorem q1191 : (Jvm.Cond.instanceMethod ({ cls := "BlanketKeysModel", name := "restore", desc := "()I" } : Jvm.MethodName)) ∈ lw_all := lw_g (lw_at lw_m5 175 rfl) rfl
theorem q1192 : (Jvm.Cond.selects "BlanketKeysModel" ({ cls := "BlanketKeysModel", name := "restore", desc := "()I" } : Jvm.MethodName) ({ cls := "BlanketKeysModel", name := "restore", desc := "()I" } : Jvm.MethodName)) ∈ lw_all := lw_g (lw_at lw_m5 176 rfl) rfl
theorem q1193 : (Jvm.Cond.code ({ cls := "BlanketKeysModel", name := "restore", desc := "()I" } : Jvm.MethodName) prog_11_method_10_code (2 : Nat) (Option.some Jvm.ClassFile.FieldType.int)) ∈ lw_all := lw_g (lw_at lw_m5 177 rfl) rfl
theorem q1194 : (Jvm.Cond.methodLink "BlanketKeysModel" (61 : Nat) ({ cls := "BlanketKeysModel", name := "begin", desc := "()V" } : Jvm.MethodName)) ∈ lw_all := lw_g (lw_at lw_m5 178 rfl) rfl
theorem q1195 : (Jvm.Cond.privateMethod ({ cls := "BlanketKeysModel", name := "begin", desc := "()V" } : Jvm.MethodName)) ∈ lw_tbl := lw_at lw_m5 179 rfl
theorem q1196 : (Jvm.Cond.instanceMethod ({ cls := "BlanketKeysModel", name := "begin", desc := "()V" } : Jvm.MethodName)) ∈ lw_all := lw_g (lw_at lw_m5 180 rfl) rfl
theorem q1197 : (Jvm.Cond.code ({ cls := "BlanketKeysModel", name := "begin", desc := "()V" } : Jvm.MethodName) prog_11_method_7_code (1 : Nat) (Option.none : Option Jvm.ClassFile.FieldType)) ∈ lw_all := lw_g (lw_at lw_m5 181 rfl) rfl
theorem q1198 : (Jvm.Cond.methodLink "BlanketKeysModel" (51 : Nat) ({ cls := "BlanketKeysModel", name := "remember", desc := "()V" } : Jvm.MethodName)) ∈ lw_all := lw_g (lw_at lw_m5 182 rfl) rfl
theorem q1199 : (Jvm.Cond.privateMethod ({ cls := "BlanketKeysModel", name := "remember", desc := "()V" } : Jvm.MethodName)) ∈ lw_tbl := lw_at lw_m5 183 rfl
theorem q1200 : (Jvm.Cond.instanceMethod ({ cls := "BlanketKeysModel", name := "remember", desc := "()V" } : Jvm.MethodName)) ∈ lw_all := lw_g (lw_at lw_m5 184 rfl) rfl
theorem q1201 : (Jvm.Cond.code ({ cls := "BlanketKeysModel", name := "remember", desc := "()V" } : Jvm.MethodName) prog_11_method_4_code (2 : Nat) (Option.none : Option Jvm.ClassFile.FieldType)) ∈ lw_all := lw_g (lw_at lw_m5 185 rfl) rfl
theorem q1202 : (Jvm.Cond.methodLink "BlanketKeysModel" (54 : Nat) ({ cls := "BlanketKeysModel", name := "record", desc := "()V" } : Jvm.MethodName)) ∈ lw_all := lw_g (lw_at lw_m5 186 rfl) rfl
theorem q1203 : (Jvm.Cond.privateMethod ({ cls := "BlanketKeysModel", name := "record", desc := "()V" } : Jvm.MethodName)) ∈ lw_tbl := lw_at lw_m5 187 rfl
theorem q1204 : (Jvm.Cond.instanceMethod ({ cls := "BlanketKeysModel", name := "record", desc := "()V" } : Jvm.MethodName)) ∈ lw_all := lw_g (lw_at lw_m5 188 rfl) rfl
theorem q1205 : (Jvm.Cond.code ({ cls := "BlanketKeysModel", name := "record", desc := "()V" } : Jvm.MethodName) prog_11_method_6_code (2 : Nat) (Option.none : Option Jvm.ClassFile.FieldType)) ∈ lw_all := lw_g (lw_at lw_m5 189 rfl) rfl
theorem q1207 : (Jvm.Cond.instanceMethod ({ cls := "BlanketKeysModel", name := "build", desc := "(II)I" } : Jvm.MethodName)) ∈ lw_all := lw_g (lw_at lw_m5 191 rfl) rfl
theorem q1208 : (Jvm.Cond.selects "BlanketKeysModel" ({ cls := "BlanketKeysModel", name := "build", desc := "(II)I" } : Jvm.MethodName) ({ cls := "BlanketKeysModel", name := "build", desc := "(II)I" } : Jvm.MethodName)) ∈ lw_all := lw_g (lw_at lw_m5 192 rfl) rfl
theorem q1209 : (Jvm.Cond.code ({ cls := "BlanketKeysModel", name := "build", desc := "(II)I" } : Jvm.MethodName) prog_11_method_16_code (5 : Nat) (Option.some Jvm.ClassFile.FieldType.int)) ∈ lw_all := lw_g (lw_at lw_m5 193 rfl) rfl
theorem q1210 : (Jvm.Cond.methodLink "BlanketKeysModel" (68 : Nat) ({ cls := "BlanketKeysModel", name := "in", desc := "(III)Z" } : Jvm.MethodName)) ∈ lw_all := lw_g (lw_at lw_m5 194 rfl) rfl
theorem q1211 : (Jvm.Cond.static ({ cls := "BlanketKeysModel", name := "in", desc := "(III)Z" } : Jvm.MethodName)) ∈ lw_all := lw_g (lw_at lw_m5 195 rfl) rfl
theorem q1212 : (Jvm.Cond.code ({ cls := "BlanketKeysModel", name := "in", desc := "(III)Z" } : Jvm.MethodName) prog_11_method_3_code (3 : Nat) (Option.some Jvm.ClassFile.FieldType.boolean)) ∈ lw_all := lw_g (lw_at lw_m5 196 rfl) rfl
theorem q1213 : (Jvm.Cond.methodLink "BlanketKeysModel" (64 : Nat) ({ cls := "BlanketKeysModel", name := "keys", desc := "()I" } : Jvm.MethodName)) ∈ lw_all := lw_g (lw_at lw_m5 197 rfl) rfl
theorem q1214 : (Jvm.Cond.privateMethod ({ cls := "BlanketKeysModel", name := "keys", desc := "()I" } : Jvm.MethodName)) ∈ lw_tbl := lw_at lw_m5 198 rfl
theorem q1215 : (Jvm.Cond.instanceMethod ({ cls := "BlanketKeysModel", name := "keys", desc := "()I" } : Jvm.MethodName)) ∈ lw_all := lw_g (lw_at lw_m5 199 rfl) rfl
theorem q1216 : (Jvm.Cond.code ({ cls := "BlanketKeysModel", name := "keys", desc := "()I" } : Jvm.MethodName) prog_11_method_11_code (1 : Nat) (Option.some Jvm.ClassFile.FieldType.int)) ∈ lw_all := lw_g (lw_at lw_m5 200 rfl) rfl
theorem q1217 : (Jvm.Cond.methodLink "BlanketKeysModel" (72 : Nat) ({ cls := "BlanketKeysModel", name := "isDown", desc := "(I)Z" } : Jvm.MethodName)) ∈ lw_all := lw_g (lw_at lw_m5 201 rfl) rfl
theorem q1218 : (Jvm.Cond.privateMethod ({ cls := "BlanketKeysModel", name := "isDown", desc := "(I)Z" } : Jvm.MethodName)) ∈ lw_tbl := lw_at lw_m5 202 rfl
theorem q1219 : (Jvm.Cond.instanceMethod ({ cls := "BlanketKeysModel", name := "isDown", desc := "(I)Z" } : Jvm.MethodName)) ∈ lw_all := lw_g (lw_at lw_m5 203 rfl) rfl
theorem q1220 : (Jvm.Cond.code ({ cls := "BlanketKeysModel", name := "isDown", desc := "(I)Z" } : Jvm.MethodName) prog_11_method_14_code (2 : Nat) (Option.some Jvm.ClassFile.FieldType.boolean)) ∈ lw_all := lw_g (lw_at lw_m5 204 rfl) rfl
theorem q1221 : (Jvm.Cond.methodLink "BlanketKeysModel" (76 : Nat) ({ cls := "BlanketKeysModel", name := "isSeen", desc := "(I)Z" } : Jvm.MethodName)) ∈ lw_all := lw_g (lw_at lw_m5 205 rfl) rfl
theorem q1222 : (Jvm.Cond.privateMethod ({ cls := "BlanketKeysModel", name := "isSeen", desc := "(I)Z" } : Jvm.MethodName)) ∈ lw_tbl := lw_at lw_m5 206 rfl
theorem q1223 : (Jvm.Cond.instanceMethod ({ cls := "BlanketKeysModel", name := "isSeen", desc := "(I)Z" } : Jvm.MethodName)) ∈ lw_all := lw_g (lw_at lw_m5 207 rfl) rfl
theorem q1224 : (Jvm.Cond.code ({ cls := "BlanketKeysModel", name := "isSeen", desc := "(I)Z" } : Jvm.MethodName) prog_11_method_15_code (2 : Nat) (Option.some Jvm.ClassFile.FieldType.boolean)) ∈ lw_all := lw_g (lw_at lw_m5 208 rfl) rfl
theorem q1226 : (Jvm.Cond.instanceMethod ({ cls := "BlanketKeysModel", name := "setSign", desc := "(IC)I" } : Jvm.MethodName)) ∈ lw_all := lw_g (lw_at lw_m5 210 rfl) rfl
theorem q1227 : (Jvm.Cond.selects "BlanketKeysModel" ({ cls := "BlanketKeysModel", name := "setSign", desc := "(IC)I" } : Jvm.MethodName) ({ cls := "BlanketKeysModel", name := "setSign", desc := "(IC)I" } : Jvm.MethodName)) ∈ lw_all := lw_g (lw_at lw_m5 211 rfl) rfl
theorem q1228 : (Jvm.Cond.code ({ cls := "BlanketKeysModel", name := "setSign", desc := "(IC)I" } : Jvm.MethodName) prog_11_method_18_code (5 : Nat) (Option.some Jvm.ClassFile.FieldType.int)) ∈ lw_all := lw_g (lw_at lw_m5 212 rfl) rfl
theorem q1229 : (Jvm.Cond.methodLink "BlanketKeysModel" (79 : Nat) ({ cls := "BlanketKeysModel", name := "noKey", desc := "(I)Z" } : Jvm.MethodName)) ∈ lw_all := lw_g (lw_at lw_m5 213 rfl) rfl
theorem q1230 : (Jvm.Cond.privateMethod ({ cls := "BlanketKeysModel", name := "noKey", desc := "(I)Z" } : Jvm.MethodName)) ∈ lw_tbl := lw_at lw_m5 214 rfl
theorem q1231 : (Jvm.Cond.instanceMethod ({ cls := "BlanketKeysModel", name := "noKey", desc := "(I)Z" } : Jvm.MethodName)) ∈ lw_all := lw_g (lw_at lw_m5 215 rfl) rfl
theorem q1232 : (Jvm.Cond.code ({ cls := "BlanketKeysModel", name := "noKey", desc := "(I)Z" } : Jvm.MethodName) prog_11_method_12_code (2 : Nat) (Option.some Jvm.ClassFile.FieldType.boolean)) ∈ lw_all := lw_g (lw_at lw_m5 216 rfl) rfl
theorem q1233 : (Jvm.Cond.methodLink "BlanketKeysModel" (82 : Nat) ({ cls := "BlanketKeysModel", name := "shiftOf", desc := "(I)I" } : Jvm.MethodName)) ∈ lw_all := lw_g (lw_at lw_m5 217 rfl) rfl
theorem q1234 : (Jvm.Cond.privateMethod ({ cls := "BlanketKeysModel", name := "shiftOf", desc := "(I)I" } : Jvm.MethodName)) ∈ lw_tbl := lw_at lw_m5 218 rfl
theorem q1235 : (Jvm.Cond.instanceMethod ({ cls := "BlanketKeysModel", name := "shiftOf", desc := "(I)I" } : Jvm.MethodName)) ∈ lw_all := lw_g (lw_at lw_m5 219 rfl) rfl
theorem q1236 : (Jvm.Cond.code ({ cls := "BlanketKeysModel", name := "shiftOf", desc := "(I)I" } : Jvm.MethodName) prog_11_method_17_code (2 : Nat) (Option.some Jvm.ClassFile.FieldType.int)) ∈ lw_all := lw_g (lw_at lw_m5 220 rfl) rfl
theorem q1238 : (Jvm.Cond.instanceMethod ({ cls := "BlanketKeysModel", name := "setShift", desc := "(II)I" } : Jvm.MethodName)) ∈ lw_all := lw_g (lw_at lw_m5 222 rfl) rfl
theorem q1239 : (Jvm.Cond.selects "BlanketKeysModel" ({ cls := "BlanketKeysModel", name := "setShift", desc := "(II)I" } : Jvm.MethodName) ({ cls := "BlanketKeysModel", name := "setShift", desc := "(II)I" } : Jvm.MethodName)) ∈ lw_all := lw_g (lw_at lw_m5 223 rfl) rfl
theorem q1240 : (Jvm.Cond.code ({ cls := "BlanketKeysModel", name := "setShift", desc := "(II)I" } : Jvm.MethodName) prog_11_method_19_code (5 : Nat) (Option.some Jvm.ClassFile.FieldType.int)) ∈ lw_all := lw_g (lw_at lw_m5 224 rfl) rfl
theorem q1241 : (Jvm.Cond.methodLink "BlanketKeysModel" (86 : Nat) ({ cls := "BlanketKeysModel", name := "noTypist", desc := "(I)Z" } : Jvm.MethodName)) ∈ lw_all := lw_g (lw_at lw_m5 225 rfl) rfl
theorem q1242 : (Jvm.Cond.privateMethod ({ cls := "BlanketKeysModel", name := "noTypist", desc := "(I)Z" } : Jvm.MethodName)) ∈ lw_tbl := lw_at lw_m5 226 rfl
theorem q1243 : (Jvm.Cond.instanceMethod ({ cls := "BlanketKeysModel", name := "noTypist", desc := "(I)Z" } : Jvm.MethodName)) ∈ lw_all := lw_g (lw_at lw_m5 227 rfl) rfl
theorem q1244 : (Jvm.Cond.code ({ cls := "BlanketKeysModel", name := "noTypist", desc := "(I)Z" } : Jvm.MethodName) prog_11_method_13_code (2 : Nat) (Option.some Jvm.ClassFile.FieldType.boolean)) ∈ lw_all := lw_g (lw_at lw_m5 228 rfl) rfl
theorem q1246 : (Jvm.Cond.instanceMethod ({ cls := "BlanketKeysModel", name := "borrow", desc := "(IZ)I" } : Jvm.MethodName)) ∈ lw_all := lw_g (lw_at lw_m5 230 rfl) rfl
theorem q1247 : (Jvm.Cond.selects "BlanketKeysModel" ({ cls := "BlanketKeysModel", name := "borrow", desc := "(IZ)I" } : Jvm.MethodName) ({ cls := "BlanketKeysModel", name := "borrow", desc := "(IZ)I" } : Jvm.MethodName)) ∈ lw_all := lw_g (lw_at lw_m5 231 rfl) rfl
theorem q1248 : (Jvm.Cond.code ({ cls := "BlanketKeysModel", name := "borrow", desc := "(IZ)I" } : Jvm.MethodName) prog_11_method_20_code (3 : Nat) (Option.some Jvm.ClassFile.FieldType.int)) ∈ lw_all := lw_g (lw_at lw_m5 232 rfl) rfl
theorem q1250 : (Jvm.Cond.instanceMethod ({ cls := "BlanketKeysModel", name := "set", desc := "(II)I" } : Jvm.MethodName)) ∈ lw_all := lw_g (lw_at lw_m5 234 rfl) rfl
theorem q1251 : (Jvm.Cond.selects "BlanketKeysModel" ({ cls := "BlanketKeysModel", name := "set", desc := "(II)I" } : Jvm.MethodName) ({ cls := "BlanketKeysModel", name := "set", desc := "(II)I" } : Jvm.MethodName)) ∈ lw_all := lw_g (lw_at lw_m5 235 rfl) rfl
theorem q1252 : (Jvm.Cond.code ({ cls := "BlanketKeysModel", name := "set", desc := "(II)I" } : Jvm.MethodName) prog_11_method_21_code (6 : Nat) (Option.some Jvm.ClassFile.FieldType.int)) ∈ lw_all := lw_g (lw_at lw_m5 236 rfl) rfl
theorem q1253 : (Jvm.Cond.constant "BlanketKeysModel" (89 : Nat) (2147483647 : Int32)) ∈ lw_all := lw_g (lw_at lw_m5 237 rfl) rfl
theorem q1254 : (Jvm.Cond.constant "BlanketKeysModel" (90 : Nat) (2139095040 : Int32)) ∈ lw_all := lw_g (lw_at lw_m5 238 rfl) rfl
theorem q1255 : (Jvm.Cond.methodLink "BlanketKeysModel" (91 : Nat) ({ cls := "java/lang/Float", name := "intBitsToFloat", desc := "(I)F" } : Jvm.MethodName)) ∈ lw_all := lw_g (lw_at lw_m5 239 rfl) rfl
theorem q1256 : (Jvm.Cond.methodLink "BlanketKeysModel" (97 : Nat) ({ cls := "java/lang/Float", name := "floatToIntBits", desc := "(F)I" } : Jvm.MethodName)) ∈ lw_all := lw_g (lw_at lw_m6 0 rfl) rfl
theorem q1265 : (Jvm.Cond.instanceMethod ({ cls := "BlanketKeysModel", name := "press", desc := "(II)I" } : Jvm.MethodName)) ∈ lw_all := lw_g (lw_at lw_m6 9 rfl) rfl
theorem q1266 : (Jvm.Cond.selects "BlanketKeysModel" ({ cls := "BlanketKeysModel", name := "press", desc := "(II)I" } : Jvm.MethodName) ({ cls := "BlanketKeysModel", name := "press", desc := "(II)I" } : Jvm.MethodName)) ∈ lw_all := lw_g (lw_at lw_m6 10 rfl) rfl
theorem q1267 : (Jvm.Cond.code ({ cls := "BlanketKeysModel", name := "press", desc := "(II)I" } : Jvm.MethodName) prog_11_method_39_code (4 : Nat) (Option.some Jvm.ClassFile.FieldType.int)) ∈ lw_all := lw_g (lw_at lw_m6 11 rfl) rfl
theorem q1268 : (Jvm.Cond.methodLink "BlanketKeysModel" (153 : Nat) ({ cls := "BlanketKeysModel", name := "againstPress", desc := "(II)I" } : Jvm.MethodName)) ∈ lw_all := lw_g (lw_at lw_m6 12 rfl) rfl
theorem q1269 : (Jvm.Cond.privateMethod ({ cls := "BlanketKeysModel", name := "againstPress", desc := "(II)I" } : Jvm.MethodName)) ∈ lw_tbl := lw_at lw_m6 13 rfl
theorem q1270 : (Jvm.Cond.instanceMethod ({ cls := "BlanketKeysModel", name := "againstPress", desc := "(II)I" } : Jvm.MethodName)) ∈ lw_all := lw_g (lw_at lw_m6 14 rfl) rfl
theorem q1271 : (Jvm.Cond.code ({ cls := "BlanketKeysModel", name := "againstPress", desc := "(II)I" } : Jvm.MethodName) prog_11_method_37_code (3 : Nat) (Option.some Jvm.ClassFile.FieldType.int)) ∈ lw_all := lw_g (lw_at lw_m6 15 rfl) rfl
theorem q1272 : (Jvm.Cond.methodLink "BlanketKeysModel" (150 : Nat) ({ cls := "BlanketKeysModel", name := "held", desc := "(I)I" } : Jvm.MethodName)) ∈ lw_all := lw_g (lw_at lw_m6 16 rfl) rfl
theorem q1273 : (Jvm.Cond.privateMethod ({ cls := "BlanketKeysModel", name := "held", desc := "(I)I" } : Jvm.MethodName)) ∈ lw_tbl := lw_at lw_m6 17 rfl
theorem q1274 : (Jvm.Cond.instanceMethod ({ cls := "BlanketKeysModel", name := "held", desc := "(I)I" } : Jvm.MethodName)) ∈ lw_all := lw_g (lw_at lw_m6 18 rfl) rfl
theorem q1275 : (Jvm.Cond.code ({ cls := "BlanketKeysModel", name := "held", desc := "(I)I" } : Jvm.MethodName) prog_11_method_36_code (4 : Nat) (Option.some Jvm.ClassFile.FieldType.int)) ∈ lw_all := lw_g (lw_at lw_m6 19 rfl) rfl
theorem q1277 : (Jvm.Cond.instanceMethod ({ cls := "BlanketKeysModel", name := "release", desc := "(II)I" } : Jvm.MethodName)) ∈ lw_all := lw_g (lw_at lw_m6 21 rfl) rfl
theorem q1278 : (Jvm.Cond.selects "BlanketKeysModel" ({ cls := "BlanketKeysModel", name := "release", desc := "(II)I" } : Jvm.MethodName) ({ cls := "BlanketKeysModel", name := "release", desc := "(II)I" } : Jvm.MethodName)) ∈ lw_all := lw_g (lw_at lw_m6 22 rfl) rfl
theorem q1279 : (Jvm.Cond.code ({ cls := "BlanketKeysModel", name := "release", desc := "(II)I" } : Jvm.MethodName) prog_11_method_40_code (4 : Nat) (Option.some Jvm.ClassFile.FieldType.int)) ∈ lw_all := lw_g (lw_at lw_m6 23 rfl) rfl
theorem q1280 : (Jvm.Cond.methodLink "BlanketKeysModel" (156 : Nat) ({ cls := "BlanketKeysModel", name := "againstRelease", desc := "(II)I" } : Jvm.MethodName)) ∈ lw_all := lw_g (lw_at lw_m6 24 rfl) rfl
theorem q1281 : (Jvm.Cond.privateMethod ({ cls := "BlanketKeysModel", name := "againstRelease", desc := "(II)I" } : Jvm.MethodName)) ∈ lw_tbl := lw_at lw_m6 25 rfl
theorem q1282 : (Jvm.Cond.instanceMethod ({ cls := "BlanketKeysModel", name := "againstRelease", desc := "(II)I" } : Jvm.MethodName)) ∈ lw_all := lw_g (lw_at lw_m6 26 rfl) rfl
theorem q1283 : (Jvm.Cond.code ({ cls := "BlanketKeysModel", name := "againstRelease", desc := "(II)I" } : Jvm.MethodName) prog_11_method_38_code (3 : Nat) (Option.some Jvm.ClassFile.FieldType.int)) ∈ lw_all := lw_g (lw_at lw_m6 27 rfl) rfl
theorem q1285 : (Jvm.Cond.instanceMethod ({ cls := "BlanketKeysModel", name := "tick", desc := "(I)I" } : Jvm.MethodName)) ∈ lw_all := lw_g (lw_at lw_m6 29 rfl) rfl
theorem q1286 : (Jvm.Cond.selects "BlanketKeysModel" ({ cls := "BlanketKeysModel", name := "tick", desc := "(I)I" } : Jvm.MethodName) ({ cls := "BlanketKeysModel", name := "tick", desc := "(I)I" } : Jvm.MethodName)) ∈ lw_all := lw_g (lw_at lw_m6 30 rfl) rfl
theorem q1287 : (Jvm.Cond.code ({ cls := "BlanketKeysModel", name := "tick", desc := "(I)I" } : Jvm.MethodName) prog_11_method_42_code (2 : Nat) (Option.some Jvm.ClassFile.FieldType.int)) ∈ lw_all := lw_g (lw_at lw_m6 31 rfl) rfl
theorem q1288 : (Jvm.Cond.methodLink "BlanketKeysModel" (162 : Nat) ({ cls := "BlanketKeysModel", name := "steps", desc := "(I)I" } : Jvm.MethodName)) ∈ lw_all := lw_g (lw_at lw_m6 32 rfl) rfl
theorem q1289 : (Jvm.Cond.privateMethod ({ cls := "BlanketKeysModel", name := "steps", desc := "(I)I" } : Jvm.MethodName)) ∈ lw_tbl := lw_at lw_m6 33 rfl
theorem q1290 : (Jvm.Cond.instanceMethod ({ cls := "BlanketKeysModel", name := "steps", desc := "(I)I" } : Jvm.MethodName)) ∈ lw_all := lw_g (lw_at lw_m6 34 rfl) rfl
theorem q1291 : (Jvm.Cond.code ({ cls := "BlanketKeysModel", name := "steps", desc := "(I)I" } : Jvm.MethodName) prog_11_method_41_code (4 : Nat) (Option.some Jvm.ClassFile.FieldType.int)) ∈ lw_all := lw_g (lw_at lw_m6 35 rfl) rfl
theorem q1292 : (Jvm.Cond.methodLink "BlanketKeysModel" (159 : Nat) ({ cls := "BlanketKeysModel", name := "step", desc := "()I" } : Jvm.MethodName)) ∈ lw_all := lw_g (lw_at lw_m6 36 rfl) rfl
theorem q1293 : (Jvm.Cond.privateMethod ({ cls := "BlanketKeysModel", name := "step", desc := "()I" } : Jvm.MethodName)) ∈ lw_tbl := lw_at lw_m6 37 rfl
theorem q1294 : (Jvm.Cond.instanceMethod ({ cls := "BlanketKeysModel", name := "step", desc := "()I" } : Jvm.MethodName)) ∈ lw_all := lw_g (lw_at lw_m6 38 rfl) rfl
theorem q1295 : (Jvm.Cond.code ({ cls := "BlanketKeysModel", name := "step", desc := "()I" } : Jvm.MethodName) prog_11_method_26_code (7 : Nat) (Option.some Jvm.ClassFile.FieldType.int)) ∈ lw_all := lw_g (lw_at lw_m6 39 rfl) rfl
theorem q1296 : (Jvm.Cond.methodLink "BlanketKeysModel" (107 : Nat) ({ cls := "BlanketKeysModel", name := "drive", desc := "(I)V" } : Jvm.MethodName)) ∈ lw_all := lw_g (lw_at lw_m6 40 rfl) rfl
theorem q1297 : (Jvm.Cond.privateMethod ({ cls := "BlanketKeysModel", name := "drive", desc := "(I)V" } : Jvm.MethodName)) ∈ lw_tbl := lw_at lw_m6 41 rfl
theorem q1298 : (Jvm.Cond.instanceMethod ({ cls := "BlanketKeysModel", name := "drive", desc := "(I)V" } : Jvm.MethodName)) ∈ lw_all := lw_g (lw_at lw_m6 42 rfl) rfl
theorem q1299 : (Jvm.Cond.code ({ cls := "BlanketKeysModel", name := "drive", desc := "(I)V" } : Jvm.MethodName) prog_11_method_22_code (9 : Nat) (Option.none : Option Jvm.ClassFile.FieldType)) ∈ lw_all := lw_g (lw_at lw_m6 43 rfl) rfl
theorem q1300 : (Jvm.Cond.methodLink "BlanketKeysModel" (111 : Nat) ({ cls := "BlanketKeysModel", name := "endStroke", desc := "(I)V" } : Jvm.MethodName)) ∈ lw_all := lw_g (lw_at lw_m6 44 rfl) rfl
theorem q1301 : (Jvm.Cond.privateMethod ({ cls := "BlanketKeysModel", name := "endStroke", desc := "(I)V" } : Jvm.MethodName)) ∈ lw_tbl := lw_at lw_m6 45 rfl
theorem q1302 : (Jvm.Cond.instanceMethod ({ cls := "BlanketKeysModel", name := "endStroke", desc := "(I)V" } : Jvm.MethodName)) ∈ lw_all := lw_g (lw_at lw_m6 46 rfl) rfl
theorem q1303 : (Jvm.Cond.code ({ cls := "BlanketKeysModel", name := "endStroke", desc := "(I)V" } : Jvm.MethodName) prog_11_method_35_code (9 : Nat) (Option.none : Option Jvm.ClassFile.FieldType)) ∈ lw_all := lw_g (lw_at lw_m6 47 rfl) rfl
theorem q1304 : (Jvm.Cond.methodLink "BlanketKeysModel" (136 : Nat) ({ cls := "BlanketKeysModel", name := "judged", desc := "(I)I" } : Jvm.MethodName)) ∈ lw_all := lw_g (lw_at lw_m6 48 rfl) rfl
theorem q1305 : (Jvm.Cond.privateMethod ({ cls := "BlanketKeysModel", name := "judged", desc := "(I)I" } : Jvm.MethodName)) ∈ lw_tbl := lw_at lw_m6 49 rfl
theorem q1306 : (Jvm.Cond.instanceMethod ({ cls := "BlanketKeysModel", name := "judged", desc := "(I)I" } : Jvm.MethodName)) ∈ lw_all := lw_g (lw_at lw_m6 50 rfl) rfl
theorem q1307 : (Jvm.Cond.code ({ cls := "BlanketKeysModel", name := "judged", desc := "(I)I" } : Jvm.MethodName) prog_11_method_32_code (9 : Nat) (Option.some Jvm.ClassFile.FieldType.int)) ∈ lw_all := lw_g (lw_at lw_m6 51 rfl) rfl
theorem q1308 : (Jvm.Cond.methodLink "BlanketKeysModel" (132 : Nat) ({ cls := "BlanketKeysModel", name := "off", desc := "(III)F" } : Jvm.MethodName)) ∈ lw_all := lw_g (lw_at lw_m6 52 rfl) rfl
theorem q1309 : (Jvm.Cond.privateMethod ({ cls := "BlanketKeysModel", name := "off", desc := "(III)F" } : Jvm.MethodName)) ∈ lw_tbl := lw_at lw_m6 53 rfl
theorem q1310 : (Jvm.Cond.instanceMethod ({ cls := "BlanketKeysModel", name := "off", desc := "(III)F" } : Jvm.MethodName)) ∈ lw_all := lw_g (lw_at lw_m6 54 rfl) rfl
theorem q1311 : (Jvm.Cond.code ({ cls := "BlanketKeysModel", name := "off", desc := "(III)F" } : Jvm.MethodName) prog_11_method_29_code (8 : Nat) (Option.some Jvm.ClassFile.FieldType.float)) ∈ lw_all := lw_g (lw_at lw_m6 55 rfl) rfl
theorem q1312 : (Jvm.Cond.methodLink "BlanketKeysModel" (120 : Nat) ({ cls := "BlanketKeysModel", name := "size", desc := "(F)F" } : Jvm.MethodName)) ∈ lw_all := lw_g (lw_at lw_m6 56 rfl) rfl
theorem q1313 : (Jvm.Cond.static ({ cls := "BlanketKeysModel", name := "size", desc := "(F)F" } : Jvm.MethodName)) ∈ lw_all := lw_g (lw_at lw_m6 57 rfl) rfl
theorem q1314 : (Jvm.Cond.code ({ cls := "BlanketKeysModel", name := "size", desc := "(F)F" } : Jvm.MethodName) prog_11_method_27_code (1 : Nat) (Option.some Jvm.ClassFile.FieldType.float)) ∈ lw_all := lw_g (lw_at lw_m6 58 rfl) rfl
theorem q1315 : (Jvm.Cond.methodLink "BlanketKeysModel" (124 : Nat) ({ cls := "BlanketKeysModel", name := "gap", desc := "(II)I" } : Jvm.MethodName)) ∈ lw_all := lw_g (lw_at lw_m6 59 rfl) rfl
theorem q1316 : (Jvm.Cond.privateMethod ({ cls := "BlanketKeysModel", name := "gap", desc := "(II)I" } : Jvm.MethodName)) ∈ lw_tbl := lw_at lw_m6 60 rfl
theorem q1317 : (Jvm.Cond.instanceMethod ({ cls := "BlanketKeysModel", name := "gap", desc := "(II)I" } : Jvm.MethodName)) ∈ lw_all := lw_g (lw_at lw_m6 61 rfl) rfl
theorem q1318 : (Jvm.Cond.code ({ cls := "BlanketKeysModel", name := "gap", desc := "(II)I" } : Jvm.MethodName) prog_11_method_28_code (4 : Nat) (Option.some Jvm.ClassFile.FieldType.int)) ∈ lw_all := lw_g (lw_at lw_m6 62 rfl) rfl
theorem q1319 : (Jvm.Cond.methodLink "BlanketKeysModel" (139 : Nat) ({ cls := "BlanketKeysModel", name := "countIt", desc := "(II)V" } : Jvm.MethodName)) ∈ lw_all := lw_g (lw_at lw_m6 63 rfl) rfl
theorem q1320 : (Jvm.Cond.privateMethod ({ cls := "BlanketKeysModel", name := "countIt", desc := "(II)V" } : Jvm.MethodName)) ∈ lw_tbl := lw_at lw_m6 64 rfl
theorem q1321 : (Jvm.Cond.instanceMethod ({ cls := "BlanketKeysModel", name := "countIt", desc := "(II)V" } : Jvm.MethodName)) ∈ lw_all := lw_g (lw_at lw_m6 65 rfl) rfl
theorem q1322 : (Jvm.Cond.code ({ cls := "BlanketKeysModel", name := "countIt", desc := "(II)V" } : Jvm.MethodName) prog_11_method_34_code (3 : Nat) (Option.none : Option Jvm.ClassFile.FieldType)) ∈ lw_all := lw_g (lw_at lw_m6 66 rfl) rfl
theorem q1323 : (Jvm.Cond.methodLink "BlanketKeysModel" (143 : Nat) ({ cls := "BlanketKeysModel", name := "learn", desc := "(III)V" } : Jvm.MethodName)) ∈ lw_all := lw_g (lw_at lw_m6 67 rfl) rfl
theorem q1324 : (Jvm.Cond.privateMethod ({ cls := "BlanketKeysModel", name := "learn", desc := "(III)V" } : Jvm.MethodName)) ∈ lw_tbl := lw_at lw_m6 68 rfl
theorem q1325 : (Jvm.Cond.instanceMethod ({ cls := "BlanketKeysModel", name := "learn", desc := "(III)V" } : Jvm.MethodName)) ∈ lw_all := lw_g (lw_at lw_m6 69 rfl) rfl
theorem q1326 : (Jvm.Cond.code ({ cls := "BlanketKeysModel", name := "learn", desc := "(III)V" } : Jvm.MethodName) prog_11_method_31_code (5 : Nat) (Option.none : Option Jvm.ClassFile.FieldType)) ∈ lw_all := lw_g (lw_at lw_m6 70 rfl) rfl
theorem q1327 : (Jvm.Cond.methodLink "BlanketKeysModel" (128 : Nat) ({ cls := "BlanketKeysModel", name := "learned", desc := "(FI)F" } : Jvm.MethodName)) ∈ lw_all := lw_g (lw_at lw_m6 71 rfl) rfl
theorem q1328 : (Jvm.Cond.privateMethod ({ cls := "BlanketKeysModel", name := "learned", desc := "(FI)F" } : Jvm.MethodName)) ∈ lw_tbl := lw_at lw_m6 72 rfl
theorem q1329 : (Jvm.Cond.instanceMethod ({ cls := "BlanketKeysModel", name := "learned", desc := "(FI)F" } : Jvm.MethodName)) ∈ lw_all := lw_g (lw_at lw_m6 73 rfl) rfl
theorem q1330 : (Jvm.Cond.code ({ cls := "BlanketKeysModel", name := "learned", desc := "(FI)F" } : Jvm.MethodName) prog_11_method_30_code (4 : Nat) (Option.some Jvm.ClassFile.FieldType.float)) ∈ lw_all := lw_g (lw_at lw_m6 74 rfl) rfl
theorem q1331 : (Jvm.Cond.methodLink "BlanketKeysModel" (147 : Nat) ({ cls := "BlanketKeysModel", name := "giveSign", desc := "(III)V" } : Jvm.MethodName)) ∈ lw_all := lw_g (lw_at lw_m6 75 rfl) rfl
theorem q1332 : (Jvm.Cond.privateMethod ({ cls := "BlanketKeysModel", name := "giveSign", desc := "(III)V" } : Jvm.MethodName)) ∈ lw_tbl := lw_at lw_m6 76 rfl
theorem q1333 : (Jvm.Cond.instanceMethod ({ cls := "BlanketKeysModel", name := "giveSign", desc := "(III)V" } : Jvm.MethodName)) ∈ lw_all := lw_g (lw_at lw_m6 77 rfl) rfl
theorem q1334 : (Jvm.Cond.code ({ cls := "BlanketKeysModel", name := "giveSign", desc := "(III)V" } : Jvm.MethodName) prog_11_method_33_code (5 : Nat) (Option.none : Option Jvm.ClassFile.FieldType)) ∈ lw_all := lw_g (lw_at lw_m6 78 rfl) rfl
theorem q1335 : (Jvm.Cond.methodLink "BlanketKeysModel" (114 : Nat) ({ cls := "BlanketKeysModel", name := "closesCorner", desc := "(I)Z" } : Jvm.MethodName)) ∈ lw_all := lw_g (lw_at lw_m6 79 rfl) rfl
theorem q1336 : (Jvm.Cond.privateMethod ({ cls := "BlanketKeysModel", name := "closesCorner", desc := "(I)Z" } : Jvm.MethodName)) ∈ lw_tbl := lw_at lw_m6 80 rfl
theorem q1337 : (Jvm.Cond.instanceMethod ({ cls := "BlanketKeysModel", name := "closesCorner", desc := "(I)Z" } : Jvm.MethodName)) ∈ lw_all := lw_g (lw_at lw_m6 81 rfl) rfl
theorem q1338 : (Jvm.Cond.code ({ cls := "BlanketKeysModel", name := "closesCorner", desc := "(I)Z" } : Jvm.MethodName) prog_11_method_24_code (7 : Nat) (Option.some Jvm.ClassFile.FieldType.boolean)) ∈ lw_all := lw_g (lw_at lw_m6 82 rfl) rfl
theorem q1339 : (Jvm.Cond.methodLink "BlanketKeysModel" (117 : Nat) ({ cls := "BlanketKeysModel", name := "isOn", desc := "(I)Z" } : Jvm.MethodName)) ∈ lw_all := lw_g (lw_at lw_m6 83 rfl) rfl
theorem q1340 : (Jvm.Cond.privateMethod ({ cls := "BlanketKeysModel", name := "isOn", desc := "(I)Z" } : Jvm.MethodName)) ∈ lw_tbl := lw_at lw_m6 84 rfl
theorem q1341 : (Jvm.Cond.instanceMethod ({ cls := "BlanketKeysModel", name := "isOn", desc := "(I)Z" } : Jvm.MethodName)) ∈ lw_all := lw_g (lw_at lw_m6 85 rfl) rfl
theorem q1342 : (Jvm.Cond.code ({ cls := "BlanketKeysModel", name := "isOn", desc := "(I)Z" } : Jvm.MethodName) prog_11_method_25_code (3 : Nat) (Option.some Jvm.ClassFile.FieldType.boolean)) ∈ lw_all := lw_g (lw_at lw_m6 86 rfl) rfl
theorem q1344 : (Jvm.Cond.instanceMethod ({ cls := "BlanketKeysModel", name := "settle", desc := "(II)I" } : Jvm.MethodName)) ∈ lw_all := lw_g (lw_at lw_m6 88 rfl) rfl
theorem q1345 : (Jvm.Cond.selects "BlanketKeysModel" ({ cls := "BlanketKeysModel", name := "settle", desc := "(II)I" } : Jvm.MethodName) ({ cls := "BlanketKeysModel", name := "settle", desc := "(II)I" } : Jvm.MethodName)) ∈ lw_all := lw_g (lw_at lw_m6 89 rfl) rfl
theorem q1346 : (Jvm.Cond.code ({ cls := "BlanketKeysModel", name := "settle", desc := "(II)I" } : Jvm.MethodName) prog_11_method_44_code (4 : Nat) (Option.some Jvm.ClassFile.FieldType.int)) ∈ lw_all := lw_g (lw_at lw_m6 90 rfl) rfl
theorem q1347 : (Jvm.Cond.methodLink "BlanketKeysModel" (165 : Nat) ({ cls := "BlanketKeysModel", name := "noDispute", desc := "(I)Z" } : Jvm.MethodName)) ∈ lw_all := lw_g (lw_at lw_m6 91 rfl) rfl
theorem q1348 : (Jvm.Cond.privateMethod ({ cls := "BlanketKeysModel", name := "noDispute", desc := "(I)Z" } : Jvm.MethodName)) ∈ lw_tbl := lw_at lw_m6 92 rfl
theorem q1349 : (Jvm.Cond.instanceMethod ({ cls := "BlanketKeysModel", name := "noDispute", desc := "(I)Z" } : Jvm.MethodName)) ∈ lw_all := lw_g (lw_at lw_m6 93 rfl) rfl
theorem q1350 : (Jvm.Cond.code ({ cls := "BlanketKeysModel", name := "noDispute", desc := "(I)Z" } : Jvm.MethodName) prog_11_method_43_code (2 : Nat) (Option.some Jvm.ClassFile.FieldType.boolean)) ∈ lw_all := lw_g (lw_at lw_m6 94 rfl) rfl
theorem q1352 : (Jvm.Cond.instanceMethod ({ cls := "BlanketKeysModel", name := "type", desc := "(C)I" } : Jvm.MethodName)) ∈ lw_all := lw_g (lw_at lw_m6 96 rfl) rfl
theorem q1353 : (Jvm.Cond.selects "BlanketKeysModel" ({ cls := "BlanketKeysModel", name := "type", desc := "(C)I" } : Jvm.MethodName) ({ cls := "BlanketKeysModel", name := "type", desc := "(C)I" } : Jvm.MethodName)) ∈ lw_all := lw_g (lw_at lw_m6 97 rfl) rfl
theorem q1354 : (Jvm.Cond.code ({ cls := "BlanketKeysModel", name := "type", desc := "(C)I" } : Jvm.MethodName) prog_11_method_45_code (2 : Nat) (Option.some Jvm.ClassFile.FieldType.int)) ∈ lw_all := lw_g (lw_at lw_m6 98 rfl) rfl
theorem q1356 : (Jvm.Cond.instanceMethod ({ cls := "BlanketKeysModel", name := "clearText", desc := "()I" } : Jvm.MethodName)) ∈ lw_all := lw_g (lw_at lw_m6 100 rfl) rfl
theorem q1357 : (Jvm.Cond.selects "BlanketKeysModel" ({ cls := "BlanketKeysModel", name := "clearText", desc := "()I" } : Jvm.MethodName) ({ cls := "BlanketKeysModel", name := "clearText", desc := "()I" } : Jvm.MethodName)) ∈ lw_all := lw_g (lw_at lw_m6 101 rfl) rfl
theorem q1358 : (Jvm.Cond.code ({ cls := "BlanketKeysModel", name := "clearText", desc := "()I" } : Jvm.MethodName) prog_11_method_46_code (2 : Nat) (Option.some Jvm.ClassFile.FieldType.int)) ∈ lw_all := lw_g (lw_at lw_m6 102 rfl) rfl
theorem q1360 : (Jvm.Cond.instanceMethod ({ cls := "BlanketKeysModel", name := "perform", desc := "()I" } : Jvm.MethodName)) ∈ lw_all := lw_g (lw_at lw_m6 104 rfl) rfl
theorem q1361 : (Jvm.Cond.selects "BlanketKeysModel" ({ cls := "BlanketKeysModel", name := "perform", desc := "()I" } : Jvm.MethodName) ({ cls := "BlanketKeysModel", name := "perform", desc := "()I" } : Jvm.MethodName)) ∈ lw_all := lw_g (lw_at lw_m6 105 rfl) rfl
theorem q1362 : (Jvm.Cond.code ({ cls := "BlanketKeysModel", name := "perform", desc := "()I" } : Jvm.MethodName) prog_11_method_51_code (2 : Nat) (Option.some Jvm.ClassFile.FieldType.int)) ∈ lw_all := lw_g (lw_at lw_m6 106 rfl) rfl
theorem q1363 : (Jvm.Cond.methodLink "BlanketKeysModel" (185 : Nat) ({ cls := "BlanketKeysModel", name := "moves", desc := "(Z)I" } : Jvm.MethodName)) ∈ lw_all := lw_g (lw_at lw_m6 107 rfl) rfl
theorem q1364 : (Jvm.Cond.privateMethod ({ cls := "BlanketKeysModel", name := "moves", desc := "(Z)I" } : Jvm.MethodName)) ∈ lw_tbl := lw_at lw_m6 108 rfl
theorem q1365 : (Jvm.Cond.instanceMethod ({ cls := "BlanketKeysModel", name := "moves", desc := "(Z)I" } : Jvm.MethodName)) ∈ lw_all := lw_g (lw_at lw_m6 109 rfl) rfl
theorem q1366 : (Jvm.Cond.code ({ cls := "BlanketKeysModel", name := "moves", desc := "(Z)I" } : Jvm.MethodName) prog_11_method_50_code (5 : Nat) (Option.some Jvm.ClassFile.FieldType.int)) ∈ lw_all := lw_g (lw_at lw_m6 110 rfl) rfl
theorem q1367 : (Jvm.Cond.methodLink "BlanketKeysModel" (181 : Nat) ({ cls := "BlanketKeysModel", name := "move", desc := "(Z)I" } : Jvm.MethodName)) ∈ lw_all := lw_g (lw_at lw_m6 111 rfl) rfl
theorem q1368 : (Jvm.Cond.privateMethod ({ cls := "BlanketKeysModel", name := "move", desc := "(Z)I" } : Jvm.MethodName)) ∈ lw_tbl := lw_at lw_m6 112 rfl
theorem q1369 : (Jvm.Cond.instanceMethod ({ cls := "BlanketKeysModel", name := "move", desc := "(Z)I" } : Jvm.MethodName)) ∈ lw_all := lw_g (lw_at lw_m6 113 rfl) rfl
theorem q1370 : (Jvm.Cond.code ({ cls := "BlanketKeysModel", name := "move", desc := "(Z)I" } : Jvm.MethodName) prog_11_method_49_code (6 : Nat) (Option.some Jvm.ClassFile.FieldType.int)) ∈ lw_all := lw_g (lw_at lw_m6 114 rfl) rfl
theorem q1371 : (Jvm.Cond.methodLink "BlanketKeysModel" (174 : Nat) ({ cls := "BlanketKeysModel", name := "sees", desc := "(II)Z" } : Jvm.MethodName)) ∈ lw_all := lw_g (lw_at lw_m6 115 rfl) rfl
theorem q1372 : (Jvm.Cond.privateMethod ({ cls := "BlanketKeysModel", name := "sees", desc := "(II)Z" } : Jvm.MethodName)) ∈ lw_tbl := lw_at lw_m6 116 rfl
theorem q1373 : (Jvm.Cond.instanceMethod ({ cls := "BlanketKeysModel", name := "sees", desc := "(II)Z" } : Jvm.MethodName)) ∈ lw_all := lw_g (lw_at lw_m6 117 rfl) rfl
theorem q1374 : (Jvm.Cond.code ({ cls := "BlanketKeysModel", name := "sees", desc := "(II)Z" } : Jvm.MethodName) prog_11_method_47_code (3 : Nat) (Option.some Jvm.ClassFile.FieldType.boolean)) ∈ lw_all := lw_g (lw_at lw_m6 118 rfl) rfl
theorem q1375 : (Jvm.Cond.methodLink "BlanketKeysModel" (178 : Nat) ({ cls := "BlanketKeysModel", name := "readsNumber", desc := "(I)I" } : Jvm.MethodName)) ∈ lw_all := lw_g (lw_at lw_m6 119 rfl) rfl
theorem q1376 : (Jvm.Cond.privateMethod ({ cls := "BlanketKeysModel", name := "readsNumber", desc := "(I)I" } : Jvm.MethodName)) ∈ lw_tbl := lw_at lw_m6 120 rfl
theorem q1377 : (Jvm.Cond.instanceMethod ({ cls := "BlanketKeysModel", name := "readsNumber", desc := "(I)I" } : Jvm.MethodName)) ∈ lw_all := lw_g (lw_at lw_m6 121 rfl) rfl
theorem q1378 : (Jvm.Cond.code ({ cls := "BlanketKeysModel", name := "readsNumber", desc := "(I)I" } : Jvm.MethodName) prog_11_method_48_code (3 : Nat) (Option.some Jvm.ClassFile.FieldType.int)) ∈ lw_all := lw_g (lw_at lw_m6 122 rfl) rfl
theorem q1379 : (Jvm.Cond.methodLink "BlanketKeysModel" (188 : Nat) ({ cls := "BlanketKeysModel", name := "goBack", desc := "()V" } : Jvm.MethodName)) ∈ lw_all := lw_g (lw_at lw_m6 123 rfl) rfl
theorem q1380 : (Jvm.Cond.privateMethod ({ cls := "BlanketKeysModel", name := "goBack", desc := "()V" } : Jvm.MethodName)) ∈ lw_tbl := lw_at lw_m6 124 rfl
theorem q1381 : (Jvm.Cond.instanceMethod ({ cls := "BlanketKeysModel", name := "goBack", desc := "()V" } : Jvm.MethodName)) ∈ lw_all := lw_g (lw_at lw_m6 125 rfl) rfl
theorem q1382 : (Jvm.Cond.code ({ cls := "BlanketKeysModel", name := "goBack", desc := "()V" } : Jvm.MethodName) prog_11_method_5_code (2 : Nat) (Option.none : Option Jvm.ClassFile.FieldType)) ∈ lw_all := lw_g (lw_at lw_m6 126 rfl) rfl
theorem q1384 : (Jvm.Cond.instanceMethod ({ cls := "BlanketKeysModel", name := "key", desc := "(II)I" } : Jvm.MethodName)) ∈ lw_all := lw_g (lw_at lw_m6 128 rfl) rfl
theorem q1385 : (Jvm.Cond.selects "BlanketKeysModel" ({ cls := "BlanketKeysModel", name := "key", desc := "(II)I" } : Jvm.MethodName) ({ cls := "BlanketKeysModel", name := "key", desc := "(II)I" } : Jvm.MethodName)) ∈ lw_all := lw_g (lw_at lw_m6 129 rfl) rfl
theorem q1386 : (Jvm.Cond.code ({ cls := "BlanketKeysModel", name := "key", desc := "(II)I" } : Jvm.MethodName) prog_11_method_52_code (3 : Nat) (Option.some Jvm.ClassFile.FieldType.int)) ∈ lw_all := lw_g (lw_at lw_m6 130 rfl) rfl
theorem q1387 : (Jvm.Cond.methodLink "BlanketKeysModel" (191 : Nat) ({ cls := "BlanketKeysModel", name := "wouldSense", desc := "(I)Z" } : Jvm.MethodName)) ∈ lw_all := lw_g (lw_at lw_m6 131 rfl) rfl
theorem q1388 : (Jvm.Cond.privateMethod ({ cls := "BlanketKeysModel", name := "wouldSense", desc := "(I)Z" } : Jvm.MethodName)) ∈ lw_tbl := lw_at lw_m6 132 rfl
theorem q1389 : (Jvm.Cond.instanceMethod ({ cls := "BlanketKeysModel", name := "wouldSense", desc := "(I)Z" } : Jvm.MethodName)) ∈ lw_all := lw_g (lw_at lw_m6 133 rfl) rfl
theorem q1390 : (Jvm.Cond.code ({ cls := "BlanketKeysModel", name := "wouldSense", desc := "(I)Z" } : Jvm.MethodName) prog_11_method_23_code (2 : Nat) (Option.some Jvm.ClassFile.FieldType.boolean)) ∈ lw_all := lw_g (lw_at lw_m6 134 rfl) rfl
theorem q1392 : (Jvm.Cond.instanceMethod ({ cls := "BlanketKeysModel", name := "typist", desc := "(II)I" } : Jvm.MethodName)) ∈ lw_all := lw_g (lw_at lw_m6 136 rfl) rfl
theorem q1393 : (Jvm.Cond.selects "BlanketKeysModel" ({ cls := "BlanketKeysModel", name := "typist", desc := "(II)I" } : Jvm.MethodName) ({ cls := "BlanketKeysModel", name := "typist", desc := "(II)I" } : Jvm.MethodName)) ∈ lw_all := lw_g (lw_at lw_m6 137 rfl) rfl
theorem q1394 : (Jvm.Cond.code ({ cls := "BlanketKeysModel", name := "typist", desc := "(II)I" } : Jvm.MethodName) prog_11_method_53_code (3 : Nat) (Option.some Jvm.ClassFile.FieldType.int)) ∈ lw_all := lw_g (lw_at lw_m6 138 rfl) rfl
theorem q1396 : (Jvm.Cond.instanceMethod ({ cls := "BlanketKeysModel", name := "style", desc := "(II)F" } : Jvm.MethodName)) ∈ lw_all := lw_g (lw_at lw_m6 140 rfl) rfl
theorem q1397 : (Jvm.Cond.selects "BlanketKeysModel" ({ cls := "BlanketKeysModel", name := "style", desc := "(II)F" } : Jvm.MethodName) ({ cls := "BlanketKeysModel", name := "style", desc := "(II)F" } : Jvm.MethodName)) ∈ lw_all := lw_g (lw_at lw_m6 141 rfl) rfl
theorem q1398 : (Jvm.Cond.code ({ cls := "BlanketKeysModel", name := "style", desc := "(II)F" } : Jvm.MethodName) prog_11_method_54_code (3 : Nat) (Option.some Jvm.ClassFile.FieldType.float)) ∈ lw_all := lw_g (lw_at lw_m6 142 rfl) rfl
theorem q1399 : (Jvm.Cond.constantFloat "BlanketKeysModel" (194 : Nat) (2143289344 : UInt32)) ∈ lw_all := lw_g (lw_at lw_m6 143 rfl) rfl
theorem q1401 : (Jvm.Cond.instanceMethod ({ cls := "BlanketKeysModel", name := "hundredths", desc := "(II)I" } : Jvm.MethodName)) ∈ lw_all := lw_g (lw_at lw_m6 145 rfl) rfl
theorem q1402 : (Jvm.Cond.selects "BlanketKeysModel" ({ cls := "BlanketKeysModel", name := "hundredths", desc := "(II)I" } : Jvm.MethodName) ({ cls := "BlanketKeysModel", name := "hundredths", desc := "(II)I" } : Jvm.MethodName)) ∈ lw_all := lw_g (lw_at lw_m6 146 rfl) rfl
theorem q1403 : (Jvm.Cond.code ({ cls := "BlanketKeysModel", name := "hundredths", desc := "(II)I" } : Jvm.MethodName) prog_11_method_55_code (3 : Nat) (Option.some Jvm.ClassFile.FieldType.int)) ∈ lw_all := lw_g (lw_at lw_m6 147 rfl) rfl
theorem q1404 : (Jvm.Cond.constantFloat "BlanketKeysModel" (195 : Nat) (1120403456 : UInt32)) ∈ lw_all := lw_g (lw_at lw_m6 148 rfl) rfl
theorem q1406 : (Jvm.Cond.instanceMethod ({ cls := "BlanketKeysModel", name := "typed", desc := "(II)I" } : Jvm.MethodName)) ∈ lw_all := lw_g (lw_at lw_m6 150 rfl) rfl
theorem q1407 : (Jvm.Cond.selects "BlanketKeysModel" ({ cls := "BlanketKeysModel", name := "typed", desc := "(II)I" } : Jvm.MethodName) ({ cls := "BlanketKeysModel", name := "typed", desc := "(II)I" } : Jvm.MethodName)) ∈ lw_all := lw_g (lw_at lw_m6 151 rfl) rfl
theorem q1408 : (Jvm.Cond.code ({ cls := "BlanketKeysModel", name := "typed", desc := "(II)I" } : Jvm.MethodName) prog_11_method_56_code (4 : Nat) (Option.some Jvm.ClassFile.FieldType.int)) ∈ lw_all := lw_g (lw_at lw_m6 152 rfl) rfl
theorem q1410 : (Jvm.Cond.instanceMethod ({ cls := "BlanketKeysModel", name := "stroke", desc := "(II)I" } : Jvm.MethodName)) ∈ lw_all := lw_g (lw_at lw_m6 154 rfl) rfl
theorem q1411 : (Jvm.Cond.selects "BlanketKeysModel" ({ cls := "BlanketKeysModel", name := "stroke", desc := "(II)I" } : Jvm.MethodName) ({ cls := "BlanketKeysModel", name := "stroke", desc := "(II)I" } : Jvm.MethodName)) ∈ lw_all := lw_g (lw_at lw_m6 155 rfl) rfl
theorem q1412 : (Jvm.Cond.code ({ cls := "BlanketKeysModel", name := "stroke", desc := "(II)I" } : Jvm.MethodName) prog_11_method_57_code (4 : Nat) (Option.some Jvm.ClassFile.FieldType.int)) ∈ lw_all := lw_g (lw_at lw_m6 156 rfl) rfl
theorem q1414 : (Jvm.Cond.instanceMethod ({ cls := "BlanketKeysModel", name := "dispute", desc := "(II)I" } : Jvm.MethodName)) ∈ lw_all := lw_g (lw_at lw_m6 158 rfl) rfl
theorem q1415 : (Jvm.Cond.selects "BlanketKeysModel" ({ cls := "BlanketKeysModel", name := "dispute", desc := "(II)I" } : Jvm.MethodName) ({ cls := "BlanketKeysModel", name := "dispute", desc := "(II)I" } : Jvm.MethodName)) ∈ lw_all := lw_g (lw_at lw_m6 159 rfl) rfl
theorem q1416 : (Jvm.Cond.code ({ cls := "BlanketKeysModel", name := "dispute", desc := "(II)I" } : Jvm.MethodName) prog_11_method_58_code (3 : Nat) (Option.some Jvm.ClassFile.FieldType.int)) ∈ lw_all := lw_g (lw_at lw_m6 160 rfl) rfl
theorem q1418 : (Jvm.Cond.instanceMethod ({ cls := "BlanketKeysModel", name := "distance", desc := "(III)F" } : Jvm.MethodName)) ∈ lw_all := lw_g (lw_at lw_m6 162 rfl) rfl
theorem q1419 : (Jvm.Cond.selects "BlanketKeysModel" ({ cls := "BlanketKeysModel", name := "distance", desc := "(III)F" } : Jvm.MethodName) ({ cls := "BlanketKeysModel", name := "distance", desc := "(III)F" } : Jvm.MethodName)) ∈ lw_all := lw_g (lw_at lw_m6 163 rfl) rfl
theorem q1420 : (Jvm.Cond.code ({ cls := "BlanketKeysModel", name := "distance", desc := "(III)F" } : Jvm.MethodName) prog_11_method_59_code (4 : Nat) (Option.some Jvm.ClassFile.FieldType.float)) ∈ lw_all := lw_g (lw_at lw_m6 164 rfl) rfl
theorem q1422 : (Jvm.Cond.instanceMethod ({ cls := "BlanketKeysModel", name := "verdict", desc := "(I)I" } : Jvm.MethodName)) ∈ lw_all := lw_g (lw_at lw_m6 166 rfl) rfl
theorem q1423 : (Jvm.Cond.selects "BlanketKeysModel" ({ cls := "BlanketKeysModel", name := "verdict", desc := "(I)I" } : Jvm.MethodName) ({ cls := "BlanketKeysModel", name := "verdict", desc := "(I)I" } : Jvm.MethodName)) ∈ lw_all := lw_g (lw_at lw_m6 167 rfl) rfl
theorem q1424 : (Jvm.Cond.code ({ cls := "BlanketKeysModel", name := "verdict", desc := "(I)I" } : Jvm.MethodName) prog_11_method_60_code (2 : Nat) (Option.some Jvm.ClassFile.FieldType.int)) ∈ lw_all := lw_g (lw_at lw_m6 168 rfl) rfl
theorem q1426 : (Jvm.Cond.instanceMethod ({ cls := "BlanketKeysModel", name := "ghostsBy", desc := "(I)I" } : Jvm.MethodName)) ∈ lw_all := lw_g (lw_at lw_m6 170 rfl) rfl
theorem q1427 : (Jvm.Cond.selects "BlanketKeysModel" ({ cls := "BlanketKeysModel", name := "ghostsBy", desc := "(I)I" } : Jvm.MethodName) ({ cls := "BlanketKeysModel", name := "ghostsBy", desc := "(I)I" } : Jvm.MethodName)) ∈ lw_all := lw_g (lw_at lw_m6 171 rfl) rfl
theorem q1428 : (Jvm.Cond.code ({ cls := "BlanketKeysModel", name := "ghostsBy", desc := "(I)I" } : Jvm.MethodName) prog_11_method_61_code (8 : Nat) (Option.some Jvm.ClassFile.FieldType.int)) ∈ lw_all := lw_g (lw_at lw_m6 172 rfl) rfl
theorem q1430 : (Jvm.Cond.instanceMethod ({ cls := "BlanketKeysModel", name := "count", desc := "(I)I" } : Jvm.MethodName)) ∈ lw_all := lw_g (lw_at lw_m6 174 rfl) rfl
theorem q1431 : (Jvm.Cond.selects "BlanketKeysModel" ({ cls := "BlanketKeysModel", name := "count", desc := "(I)I" } : Jvm.MethodName) ({ cls := "BlanketKeysModel", name := "count", desc := "(I)I" } : Jvm.MethodName)) ∈ lw_all := lw_g (lw_at lw_m6 175 rfl) rfl
theorem q1432 : (Jvm.Cond.code ({ cls := "BlanketKeysModel", name := "count", desc := "(I)I" } : Jvm.MethodName) prog_11_method_64_code (2 : Nat) (Option.some Jvm.ClassFile.FieldType.int)) ∈ lw_all := lw_g (lw_at lw_m6 176 rfl) rfl
theorem q1433 : (Jvm.Cond.methodLink "BlanketKeysModel" (196 : Nat) ({ cls := "BlanketKeysModel", name := "keysThat", desc := "(I)I" } : Jvm.MethodName)) ∈ lw_all := lw_g (lw_at lw_m6 177 rfl) rfl
theorem q1434 : (Jvm.Cond.privateMethod ({ cls := "BlanketKeysModel", name := "keysThat", desc := "(I)I" } : Jvm.MethodName)) ∈ lw_tbl := lw_at lw_m6 178 rfl
theorem q1435 : (Jvm.Cond.instanceMethod ({ cls := "BlanketKeysModel", name := "keysThat", desc := "(I)I" } : Jvm.MethodName)) ∈ lw_all := lw_g (lw_at lw_m6 179 rfl) rfl
theorem q1436 : (Jvm.Cond.code ({ cls := "BlanketKeysModel", name := "keysThat", desc := "(I)I" } : Jvm.MethodName) prog_11_method_63_code (5 : Nat) (Option.some Jvm.ClassFile.FieldType.int)) ∈ lw_all := lw_g (lw_at lw_m6 180 rfl) rfl
theorem q1437 : (Jvm.Cond.methodLink "BlanketKeysModel" (199 : Nat) ({ cls := "BlanketKeysModel", name := "openDisputes", desc := "()I" } : Jvm.MethodName)) ∈ lw_all := lw_g (lw_at lw_m6 181 rfl) rfl
theorem q1438 : (Jvm.Cond.privateMethod ({ cls := "BlanketKeysModel", name := "openDisputes", desc := "()I" } : Jvm.MethodName)) ∈ lw_tbl := lw_at lw_m6 182 rfl
theorem q1439 : (Jvm.Cond.instanceMethod ({ cls := "BlanketKeysModel", name := "openDisputes", desc := "()I" } : Jvm.MethodName)) ∈ lw_all := lw_g (lw_at lw_m6 183 rfl) rfl
theorem q1440 : (Jvm.Cond.code ({ cls := "BlanketKeysModel", name := "openDisputes", desc := "()I" } : Jvm.MethodName) prog_11_method_62_code (3 : Nat) (Option.some Jvm.ClassFile.FieldType.int)) ∈ lw_all := lw_g (lw_at lw_m6 184 rfl) rfl
theorem q1457 : (Jvm.Cond.castable "BlanketKeysModel" "java/lang/Object") ∈ lw_tbl := lw_at lw_m6 201 rfl
theorem in_X5 : ∀ w ∈ wsX50, w ∈ lw_all := lw_in wsX50 [1150, 1152, 1154, 1156, 1158, 1160, 1162, 1164, 1166, 1168, 1170, 1172, 1174, 1176, 1178] (by decide +kernel) (by decide +kernel)
