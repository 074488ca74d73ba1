/-! BlanketKeys -/
set_option maxRecDepth 100000
def RX0 : String := "BlanketKeys"
def TX0 : u_T := fun k => match k with
  | 0 => ("BlanketKeys", "state", "LBlanketKeys$State;", false)
  | 1 => ("BlanketKeys", "snapshot", "LBlanketKeys$State;", false)
  | 2 => ("BlanketKeys", "history", "Ljava/util/List;", true)
  | _ => ("BlanketKeys", "text", "Ljava/lang/StringBuilder;", true)
def tyX0 : Nat → FieldType := fun k => match k with
  | 0 => .object "BlanketKeys$State"
  | 1 => .object "BlanketKeys$State"
  | 2 => .object "java/util/List"
  | _ => .object "java/lang/StringBuilder"
abbrev wsX00 : List Cond := u_ws RX0 TX0 4
theorem nmX0 : ∀ a, a < 4 → ∀ b, b < 4 → a ≠ b → (TX0 a).2.1 ≠ (TX0 b).2.1 := by decide +kernel
theorem tyX0_ok : ∀ k, k < 4 → parseFieldDescriptor (TX0 k).2.2.1 = some (tyX0 k) := by decide +kernel
abbrev cX0_init : ByteArray := prog_1_method_6_code
def yX0_init : MethodName := ⟨RX0, "<init>", "()V"⟩
def dkwX0_init_2 : List UInt8 := [177]
abbrev dktX0_init_2 : List UInt8 := dkwX0_init_2 ++ []
def dkwX0_init_1 : List UInt8 := [181, 0, 24, 42, 187, 0, 28, 89, 183, 0, 30, 181, 0, 31, 42, 180, 0, 17, 7, 16, 6, 182, 0, 35]
abbrev dktX0_init_1 : List UInt8 := dkwX0_init_1 ++ dktX0_init_2
def dkwX0_init_0 : List UInt8 := [42, 183, 0, 8, 42, 187, 0, 14, 89, 183, 0, 16, 181, 0, 17, 42, 187, 0, 21, 89, 183, 0, 23]
abbrev dktX0_init_0 : List UInt8 := dkwX0_init_0 ++ dktX0_init_1
theorem dksX0_init_0 : cX0_init.data.toList.drop 0 = dktX0_init_0 := by decide +kernel
theorem dksX0_init_1 : cX0_init.data.toList.drop 23 = dktX0_init_1 := dk_seg dksX0_init_0 23 rfl rfl
theorem dksX0_init_2 : cX0_init.data.toList.drop 47 = dktX0_init_2 := dk_seg dksX0_init_1 24 rfl rfl
theorem dX0_init_0 : decode cX0_init 0 = .ok (.aload_n 0, 1) := dk_42 (dk_at dksX0_init_0 0 rfl rfl)
theorem dX0_init_1 : decode cX0_init 1 = .ok (.invokespecial 8, 3) := dk_183 0 8 (dk_at dksX0_init_0 1 rfl rfl)
theorem dX0_init_4 : decode cX0_init 4 = .ok (.aload_n 0, 1) := dk_42 (dk_at dksX0_init_0 4 rfl rfl)
theorem dX0_init_5 : decode cX0_init 5 = .ok (.new 14, 3) := dk_187 0 14 (dk_at dksX0_init_0 5 rfl rfl)
theorem dX0_init_8 : decode cX0_init 8 = .ok (.dup, 1) := dk_89 (dk_at dksX0_init_0 8 rfl rfl)
theorem dX0_init_9 : decode cX0_init 9 = .ok (.invokespecial 16, 3) := dk_183 0 16 (dk_at dksX0_init_0 9 rfl rfl)
theorem dX0_init_12 : decode cX0_init 12 = .ok (.putfield 17, 3) := dk_181 0 17 (dk_at dksX0_init_0 12 rfl rfl)
theorem dX0_init_15 : decode cX0_init 15 = .ok (.aload_n 0, 1) := dk_42 (dk_at dksX0_init_0 15 rfl rfl)
theorem dX0_init_16 : decode cX0_init 16 = .ok (.new 21, 3) := dk_187 0 21 (dk_at dksX0_init_0 16 rfl rfl)
theorem dX0_init_19 : decode cX0_init 19 = .ok (.dup, 1) := dk_89 (dk_at dksX0_init_0 19 rfl rfl)
theorem dX0_init_20 : decode cX0_init 20 = .ok (.invokespecial 23, 3) := dk_183 0 23 (dk_at dksX0_init_0 20 rfl rfl)
theorem dX0_init_23 : decode cX0_init 23 = .ok (.putfield 24, 3) := dk_181 0 24 (dk_at dksX0_init_1 0 rfl rfl)
theorem dX0_init_26 : decode cX0_init 26 = .ok (.aload_n 0, 1) := dk_42 (dk_at dksX0_init_1 3 rfl rfl)
theorem dX0_init_27 : decode cX0_init 27 = .ok (.new 28, 3) := dk_187 0 28 (dk_at dksX0_init_1 4 rfl rfl)
theorem dX0_init_30 : decode cX0_init 30 = .ok (.dup, 1) := dk_89 (dk_at dksX0_init_1 7 rfl rfl)
theorem dX0_init_31 : decode cX0_init 31 = .ok (.invokespecial 30, 3) := dk_183 0 30 (dk_at dksX0_init_1 8 rfl rfl)
theorem dX0_init_34 : decode cX0_init 34 = .ok (.putfield 31, 3) := dk_181 0 31 (dk_at dksX0_init_1 11 rfl rfl)
theorem dX0_init_37 : decode cX0_init 37 = .ok (.aload_n 0, 1) := dk_42 (dk_at dksX0_init_1 14 rfl rfl)
theorem dX0_init_38 : decode cX0_init 38 = .ok (.getfield 17, 3) := dk_180 0 17 (dk_at dksX0_init_1 15 rfl rfl)
theorem dX0_init_41 : decode cX0_init 41 = .ok (.iconst 4, 1) := dk_7 (dk_at dksX0_init_1 18 rfl rfl)
theorem dX0_init_42 : decode cX0_init 42 = .ok (.bipush 6, 2) := dk_16 6 (dk_at dksX0_init_1 19 rfl rfl)
theorem dX0_init_44 : decode cX0_init 44 = .ok (.invokevirtual 35, 3) := dk_182 0 35 (dk_at dksX0_init_1 21 rfl rfl)
theorem dX0_init_47 : decode cX0_init 47 = .ok (.return_, 1) := dk_177 (dk_at dksX0_init_2 0 rfl rfl)
abbrev cX0_build : ByteArray := prog_1_method_9_code
def yX0_build : MethodName := ⟨RX0, "build", "(II)I"⟩
def dkwX0_build_5 : List UInt8 := [42, 42, 180, 0, 17, 182, 0, 75, 182, 0, 79, 42, 180, 0, 17, 27, 28, 182, 0, 35, 27, 28, 104, 172]
abbrev dktX0_build_5 : List UInt8 := dkwX0_build_5 ++ []
def dkwX0_build_4 : List UInt8 := [180, 0, 17, 180, 0, 68, 27, 160, 0, 17, 42, 180, 0, 17, 180, 0, 72, 28, 160, 0, 6, 16, 251, 172]
abbrev dktX0_build_4 : List UInt8 := dkwX0_build_4 ++ dktX0_build_5
def dkwX0_build_3 : List UInt8 := [185, 0, 56, 2, 0, 192, 0, 59, 182, 0, 65, 153, 0, 6, 16, 252, 172, 132, 3, 1, 167, 255, 190, 42]
abbrev dktX0_build_3 : List UInt8 := dkwX0_build_3 ++ dktX0_build_4
def dkwX0_build_2 : List UInt8 := [29, 185, 0, 56, 2, 0, 192, 0, 59, 182, 0, 61, 154, 0, 25, 42, 180, 0, 17, 180, 0, 53, 29]
abbrev dktX0_build_2 : List UInt8 := dkwX0_build_2 ++ dktX0_build_3
def dkwX0_build_1 : List UInt8 := [62, 29, 42, 180, 0, 17, 180, 0, 53, 185, 0, 39, 1, 0, 162, 0, 56, 42, 180, 0, 17, 180, 0, 53]
abbrev dktX0_build_1 : List UInt8 := dkwX0_build_1 ++ dktX0_build_2
def dkwX0_build_0 : List UInt8 := [27, 5, 16, 6, 184, 0, 3, 153, 0, 13, 28, 5, 16, 8, 184, 0, 3, 154, 0, 6, 16, 254, 172, 3]
abbrev dktX0_build_0 : List UInt8 := dkwX0_build_0 ++ dktX0_build_1
theorem dksX0_build_0 : cX0_build.data.toList.drop 0 = dktX0_build_0 := by decide +kernel
theorem dksX0_build_1 : cX0_build.data.toList.drop 24 = dktX0_build_1 := dk_seg dksX0_build_0 24 rfl rfl
theorem dksX0_build_2 : cX0_build.data.toList.drop 48 = dktX0_build_2 := dk_seg dksX0_build_1 24 rfl rfl
theorem dksX0_build_3 : cX0_build.data.toList.drop 71 = dktX0_build_3 := dk_seg dksX0_build_2 23 rfl rfl
theorem dksX0_build_4 : cX0_build.data.toList.drop 95 = dktX0_build_4 := dk_seg dksX0_build_3 24 rfl rfl
theorem dksX0_build_5 : cX0_build.data.toList.drop 119 = dktX0_build_5 := dk_seg dksX0_build_4 24 rfl rfl
theorem dX0_build_0 : decode cX0_build 0 = .ok (.iload_n 1, 1) := dk_27 (dk_at dksX0_build_0 0 rfl rfl)
theorem dX0_build_1 : decode cX0_build 1 = .ok (.iconst 2, 1) := dk_5 (dk_at dksX0_build_0 1 rfl rfl)
theorem dX0_build_2 : decode cX0_build 2 = .ok (.bipush 6, 2) := dk_16 6 (dk_at dksX0_build_0 2 rfl rfl)
theorem dX0_build_4 : decode cX0_build 4 = .ok (.invokestatic 3, 3) := dk_184 0 3 (dk_at dksX0_build_0 4 rfl rfl)
theorem dX0_build_7 : decode cX0_build 7 = .ok (.ifCond .eq 13, 3) := dk_153 0 13 (dk_at dksX0_build_0 7 rfl rfl)
theorem dX0_build_10 : decode cX0_build 10 = .ok (.iload_n 2, 1) := dk_28 (dk_at dksX0_build_0 10 rfl rfl)
theorem dX0_build_11 : decode cX0_build 11 = .ok (.iconst 2, 1) := dk_5 (dk_at dksX0_build_0 11 rfl rfl)
theorem dX0_build_12 : decode cX0_build 12 = .ok (.bipush 8, 2) := dk_16 8 (dk_at dksX0_build_0 12 rfl rfl)
theorem dX0_build_14 : decode cX0_build 14 = .ok (.invokestatic 3, 3) := dk_184 0 3 (dk_at dksX0_build_0 14 rfl rfl)
theorem dX0_build_17 : decode cX0_build 17 = .ok (.ifCond .ne 6, 3) := dk_154 0 6 (dk_at dksX0_build_0 17 rfl rfl)
theorem dX0_build_20 : decode cX0_build 20 = .ok (.bipush (-2), 2) := dk_16 254 (dk_at dksX0_build_0 20 rfl rfl)
theorem dX0_build_22 : decode cX0_build 22 = .ok (.ireturn, 1) := dk_172 (dk_at dksX0_build_0 22 rfl rfl)
theorem dX0_build_23 : decode cX0_build 23 = .ok (.iconst 0, 1) := dk_3 (dk_at dksX0_build_0 23 rfl rfl)
theorem dX0_build_24 : decode cX0_build 24 = .ok (.istore_n 3, 1) := dk_62 (dk_at dksX0_build_1 0 rfl rfl)
theorem dX0_build_25 : decode cX0_build 25 = .ok (.iload_n 3, 1) := dk_29 (dk_at dksX0_build_1 1 rfl rfl)
theorem dX0_build_26 : decode cX0_build 26 = .ok (.aload_n 0, 1) := dk_42 (dk_at dksX0_build_1 2 rfl rfl)
theorem dX0_build_27 : decode cX0_build 27 = .ok (.getfield 17, 3) := dk_180 0 17 (dk_at dksX0_build_1 3 rfl rfl)
theorem dX0_build_30 : decode cX0_build 30 = .ok (.getfield 53, 3) := dk_180 0 53 (dk_at dksX0_build_1 6 rfl rfl)
theorem dX0_build_33 : decode cX0_build 33 = .ok (.invokeinterface 39 1, 5) := by decide +kernel
theorem dX0_build_38 : decode cX0_build 38 = .ok (.if_icmp .ge 56, 3) := dk_162 0 56 (dk_at dksX0_build_1 14 rfl rfl)
theorem dX0_build_41 : decode cX0_build 41 = .ok (.aload_n 0, 1) := dk_42 (dk_at dksX0_build_1 17 rfl rfl)
theorem dX0_build_42 : decode cX0_build 42 = .ok (.getfield 17, 3) := dk_180 0 17 (dk_at dksX0_build_1 18 rfl rfl)
theorem dX0_build_45 : decode cX0_build 45 = .ok (.getfield 53, 3) := dk_180 0 53 (dk_at dksX0_build_1 21 rfl rfl)
theorem dX0_build_48 : decode cX0_build 48 = .ok (.iload_n 3, 1) := dk_29 (dk_at dksX0_build_2 0 rfl rfl)
theorem dX0_build_49 : decode cX0_build 49 = .ok (.invokeinterface 56 2, 5) := by decide +kernel
theorem dX0_build_54 : decode cX0_build 54 = .ok (.checkcast 59, 3) := dk_192 0 59 (dk_at dksX0_build_2 6 rfl rfl)
theorem dX0_build_57 : decode cX0_build 57 = .ok (.invokevirtual 61, 3) := dk_182 0 61 (dk_at dksX0_build_2 9 rfl rfl)
theorem dX0_build_60 : decode cX0_build 60 = .ok (.ifCond .ne 25, 3) := dk_154 0 25 (dk_at dksX0_build_2 12 rfl rfl)
theorem dX0_build_63 : decode cX0_build 63 = .ok (.aload_n 0, 1) := dk_42 (dk_at dksX0_build_2 15 rfl rfl)
theorem dX0_build_64 : decode cX0_build 64 = .ok (.getfield 17, 3) := dk_180 0 17 (dk_at dksX0_build_2 16 rfl rfl)
theorem dX0_build_67 : decode cX0_build 67 = .ok (.getfield 53, 3) := dk_180 0 53 (dk_at dksX0_build_2 19 rfl rfl)
theorem dX0_build_70 : decode cX0_build 70 = .ok (.iload_n 3, 1) := dk_29 (dk_at dksX0_build_2 22 rfl rfl)
theorem dX0_build_71 : decode cX0_build 71 = .ok (.invokeinterface 56 2, 5) := by decide +kernel
theorem dX0_build_76 : decode cX0_build 76 = .ok (.checkcast 59, 3) := dk_192 0 59 (dk_at dksX0_build_3 5 rfl rfl)
theorem dX0_build_79 : decode cX0_build 79 = .ok (.invokevirtual 65, 3) := dk_182 0 65 (dk_at dksX0_build_3 8 rfl rfl)
theorem dX0_build_82 : decode cX0_build 82 = .ok (.ifCond .eq 6, 3) := dk_153 0 6 (dk_at dksX0_build_3 11 rfl rfl)
theorem dX0_build_85 : decode cX0_build 85 = .ok (.bipush (-4), 2) := dk_16 252 (dk_at dksX0_build_3 14 rfl rfl)
theorem dX0_build_87 : decode cX0_build 87 = .ok (.ireturn, 1) := dk_172 (dk_at dksX0_build_3 16 rfl rfl)
theorem dX0_build_88 : decode cX0_build 88 = .ok (.iinc 3 1, 3) := dk_132 3 1 (dk_at dksX0_build_3 17 rfl rfl)
theorem dX0_build_91 : decode cX0_build 91 = .ok (.goto (-66), 3) := dk_167 255 190 (dk_at dksX0_build_3 20 rfl rfl)
theorem dX0_build_94 : decode cX0_build 94 = .ok (.aload_n 0, 1) := dk_42 (dk_at dksX0_build_3 23 rfl rfl)
theorem dX0_build_95 : decode cX0_build 95 = .ok (.getfield 17, 3) := dk_180 0 17 (dk_at dksX0_build_4 0 rfl rfl)
theorem dX0_build_98 : decode cX0_build 98 = .ok (.getfield 68, 3) := dk_180 0 68 (dk_at dksX0_build_4 3 rfl rfl)
theorem dX0_build_101 : decode cX0_build 101 = .ok (.iload_n 1, 1) := dk_27 (dk_at dksX0_build_4 6 rfl rfl)
theorem dX0_build_102 : decode cX0_build 102 = .ok (.if_icmp .ne 17, 3) := dk_160 0 17 (dk_at dksX0_build_4 7 rfl rfl)
theorem dX0_build_105 : decode cX0_build 105 = .ok (.aload_n 0, 1) := dk_42 (dk_at dksX0_build_4 10 rfl rfl)
theorem dX0_build_106 : decode cX0_build 106 = .ok (.getfield 17, 3) := dk_180 0 17 (dk_at dksX0_build_4 11 rfl rfl)
theorem dX0_build_109 : decode cX0_build 109 = .ok (.getfield 72, 3) := dk_180 0 72 (dk_at dksX0_build_4 14 rfl rfl)
theorem dX0_build_112 : decode cX0_build 112 = .ok (.iload_n 2, 1) := dk_28 (dk_at dksX0_build_4 17 rfl rfl)
theorem dX0_build_113 : decode cX0_build 113 = .ok (.if_icmp .ne 6, 3) := dk_160 0 6 (dk_at dksX0_build_4 18 rfl rfl)
theorem dX0_build_116 : decode cX0_build 116 = .ok (.bipush (-5), 2) := dk_16 251 (dk_at dksX0_build_4 21 rfl rfl)
theorem dX0_build_118 : decode cX0_build 118 = .ok (.ireturn, 1) := dk_172 (dk_at dksX0_build_4 23 rfl rfl)
theorem dX0_build_119 : decode cX0_build 119 = .ok (.aload_n 0, 1) := dk_42 (dk_at dksX0_build_5 0 rfl rfl)
theorem dX0_build_120 : decode cX0_build 120 = .ok (.aload_n 0, 1) := dk_42 (dk_at dksX0_build_5 1 rfl rfl)
theorem dX0_build_121 : decode cX0_build 121 = .ok (.getfield 17, 3) := dk_180 0 17 (dk_at dksX0_build_5 2 rfl rfl)
theorem dX0_build_124 : decode cX0_build 124 = .ok (.invokevirtual 75, 3) := dk_182 0 75 (dk_at dksX0_build_5 5 rfl rfl)
theorem dX0_build_127 : decode cX0_build 127 = .ok (.invokevirtual 79, 3) := dk_182 0 79 (dk_at dksX0_build_5 8 rfl rfl)
theorem dX0_build_130 : decode cX0_build 130 = .ok (.aload_n 0, 1) := dk_42 (dk_at dksX0_build_5 11 rfl rfl)
theorem dX0_build_131 : decode cX0_build 131 = .ok (.getfield 17, 3) := dk_180 0 17 (dk_at dksX0_build_5 12 rfl rfl)
theorem dX0_build_134 : decode cX0_build 134 = .ok (.iload_n 1, 1) := dk_27 (dk_at dksX0_build_5 15 rfl rfl)
theorem dX0_build_135 : decode cX0_build 135 = .ok (.iload_n 2, 1) := dk_28 (dk_at dksX0_build_5 16 rfl rfl)
theorem dX0_build_136 : decode cX0_build 136 = .ok (.invokevirtual 35, 3) := dk_182 0 35 (dk_at dksX0_build_5 17 rfl rfl)
theorem dX0_build_139 : decode cX0_build 139 = .ok (.iload_n 1, 1) := dk_27 (dk_at dksX0_build_5 20 rfl rfl)
theorem dX0_build_140 : decode cX0_build 140 = .ok (.iload_n 2, 1) := dk_28 (dk_at dksX0_build_5 21 rfl rfl)
theorem dX0_build_141 : decode cX0_build 141 = .ok (.imul, 1) := dk_104 (dk_at dksX0_build_5 22 rfl rfl)
theorem dX0_build_142 : decode cX0_build 142 = .ok (.ireturn, 1) := dk_172 (dk_at dksX0_build_5 23 rfl rfl)
abbrev cX0_inRange : ByteArray := prog_1_method_1_code
def yX0_inRange : MethodName := ⟨RX0, "inRange", "(III)Z"⟩
def dkwX0_inRange_0 : List UInt8 := [26, 27, 161, 0, 12, 26, 28, 163, 0, 7, 4, 167, 0, 4, 3, 172]
abbrev dktX0_inRange_0 : List UInt8 := dkwX0_inRange_0 ++ []
theorem dksX0_inRange_0 : cX0_inRange.data.toList.drop 0 = dktX0_inRange_0 := by decide +kernel
theorem dX0_inRange_0 : decode cX0_inRange 0 = .ok (.iload_n 0, 1) := dk_26 (dk_at dksX0_inRange_0 0 rfl rfl)
theorem dX0_inRange_1 : decode cX0_inRange 1 = .ok (.iload_n 1, 1) := dk_27 (dk_at dksX0_inRange_0 1 rfl rfl)
theorem dX0_inRange_2 : decode cX0_inRange 2 = .ok (.if_icmp .lt 12, 3) := dk_161 0 12 (dk_at dksX0_inRange_0 2 rfl rfl)
theorem dX0_inRange_5 : decode cX0_inRange 5 = .ok (.iload_n 0, 1) := dk_26 (dk_at dksX0_inRange_0 5 rfl rfl)
theorem dX0_inRange_6 : decode cX0_inRange 6 = .ok (.iload_n 2, 1) := dk_28 (dk_at dksX0_inRange_0 6 rfl rfl)
theorem dX0_inRange_7 : decode cX0_inRange 7 = .ok (.if_icmp .gt 7, 3) := dk_163 0 7 (dk_at dksX0_inRange_0 7 rfl rfl)
theorem dX0_inRange_10 : decode cX0_inRange 10 = .ok (.iconst 1, 1) := dk_4 (dk_at dksX0_inRange_0 10 rfl rfl)
theorem dX0_inRange_11 : decode cX0_inRange 11 = .ok (.goto 4, 3) := dk_167 0 4 (dk_at dksX0_inRange_0 11 rfl rfl)
theorem dX0_inRange_14 : decode cX0_inRange 14 = .ok (.iconst 0, 1) := dk_3 (dk_at dksX0_inRange_0 14 rfl rfl)
theorem dX0_inRange_15 : decode cX0_inRange 15 = .ok (.ireturn, 1) := dk_172 (dk_at dksX0_inRange_0 15 rfl rfl)
abbrev cX0_record : ByteArray := prog_1_method_7_code
def yX0_record : MethodName := ⟨RX0, "record", "(LBlanketKeys$State;)V"⟩
def dkwX0_record_1 : List UInt8 := [42, 180, 0, 24, 43, 185, 0, 49, 2, 0, 87, 177]
abbrev dktX0_record_1 : List UInt8 := dkwX0_record_1 ++ []
def dkwX0_record_0 : List UInt8 := [42, 180, 0, 24, 185, 0, 39, 1, 0, 7, 160, 0, 14, 42, 180, 0, 24, 3, 185, 0, 45, 2, 0, 87]
abbrev dktX0_record_0 : List UInt8 := dkwX0_record_0 ++ dktX0_record_1
theorem dksX0_record_0 : cX0_record.data.toList.drop 0 = dktX0_record_0 := by decide +kernel
theorem dksX0_record_1 : cX0_record.data.toList.drop 24 = dktX0_record_1 := dk_seg dksX0_record_0 24 rfl rfl
theorem dX0_record_0 : decode cX0_record 0 = .ok (.aload_n 0, 1) := dk_42 (dk_at dksX0_record_0 0 rfl rfl)
theorem dX0_record_1 : decode cX0_record 1 = .ok (.getfield 24, 3) := dk_180 0 24 (dk_at dksX0_record_0 1 rfl rfl)
theorem dX0_record_4 : decode cX0_record 4 = .ok (.invokeinterface 39 1, 5) := by decide +kernel
theorem dX0_record_9 : decode cX0_record 9 = .ok (.iconst 4, 1) := dk_7 (dk_at dksX0_record_0 9 rfl rfl)
theorem dX0_record_10 : decode cX0_record 10 = .ok (.if_icmp .ne 14, 3) := dk_160 0 14 (dk_at dksX0_record_0 10 rfl rfl)
theorem dX0_record_13 : decode cX0_record 13 = .ok (.aload_n 0, 1) := dk_42 (dk_at dksX0_record_0 13 rfl rfl)
theorem dX0_record_14 : decode cX0_record 14 = .ok (.getfield 24, 3) := dk_180 0 24 (dk_at dksX0_record_0 14 rfl rfl)
theorem dX0_record_17 : decode cX0_record 17 = .ok (.iconst 0, 1) := dk_3 (dk_at dksX0_record_0 17 rfl rfl)
theorem dX0_record_18 : decode cX0_record 18 = .ok (.invokeinterface 45 2, 5) := by decide +kernel
theorem dX0_record_23 : decode cX0_record 23 = .ok (.pop, 1) := dk_87 (dk_at dksX0_record_0 23 rfl rfl)
theorem dX0_record_24 : decode cX0_record 24 = .ok (.aload_n 0, 1) := dk_42 (dk_at dksX0_record_1 0 rfl rfl)
theorem dX0_record_25 : decode cX0_record 25 = .ok (.getfield 24, 3) := dk_180 0 24 (dk_at dksX0_record_1 1 rfl rfl)
theorem dX0_record_28 : decode cX0_record 28 = .ok (.aload_n 1, 1) := dk_43 (dk_at dksX0_record_1 4 rfl rfl)
theorem dX0_record_29 : decode cX0_record 29 = .ok (.invokeinterface 49 2, 5) := by decide +kernel
theorem dX0_record_34 : decode cX0_record 34 = .ok (.pop, 1) := dk_87 (dk_at dksX0_record_1 10 rfl rfl)
theorem dX0_record_35 : decode cX0_record 35 = .ok (.return_, 1) := dk_177 (dk_at dksX0_record_1 11 rfl rfl)
abbrev cX0_setSign : ByteArray := prog_1_method_10_code
def yX0_setSign : MethodName := ⟨RX0, "setSign", "(IC)I"⟩
def dkwX0_setSign_3 : List UInt8 := [180, 0, 17, 182, 0, 75, 182, 0, 79, 45, 28, 181, 0, 91, 45, 16, 251, 181, 0, 95, 21, 4, 172]
abbrev dktX0_setSign_3 : List UInt8 := dkwX0_setSign_3 ++ []
def dkwX0_setSign_2 : List UInt8 := [54, 4, 21, 4, 28, 160, 0, 15, 45, 180, 0, 95, 16, 251, 160, 0, 6, 16, 251, 172, 42, 42]
abbrev dktX0_setSign_2 : List UInt8 := dkwX0_setSign_2 ++ dktX0_setSign_3
def dkwX0_setSign_1 : List UInt8 := [16, 254, 172, 42, 180, 0, 17, 180, 0, 53, 27, 185, 0, 56, 2, 0, 192, 0, 59, 78, 45, 180, 0, 91]
abbrev dktX0_setSign_1 : List UInt8 := dkwX0_setSign_1 ++ dktX0_setSign_2
def dkwX0_setSign_0 : List UInt8 := [42, 27, 182, 0, 83, 154, 0, 5, 2, 172, 28, 184, 0, 87, 154, 0, 12, 28, 16, 46, 159, 0, 6]
abbrev dktX0_setSign_0 : List UInt8 := dkwX0_setSign_0 ++ dktX0_setSign_1
theorem dksX0_setSign_0 : cX0_setSign.data.toList.drop 0 = dktX0_setSign_0 := by decide +kernel
theorem dksX0_setSign_1 : cX0_setSign.data.toList.drop 23 = dktX0_setSign_1 := dk_seg dksX0_setSign_0 23 rfl rfl
theorem dksX0_setSign_2 : cX0_setSign.data.toList.drop 47 = dktX0_setSign_2 := dk_seg dksX0_setSign_1 24 rfl rfl
theorem dksX0_setSign_3 : cX0_setSign.data.toList.drop 69 = dktX0_setSign_3 := dk_seg dksX0_setSign_2 22 rfl rfl
theorem dX0_setSign_0 : decode cX0_setSign 0 = .ok (.aload_n 0, 1) := dk_42 (dk_at dksX0_setSign_0 0 rfl rfl)
theorem dX0_setSign_1 : decode cX0_setSign 1 = .ok (.iload_n 1, 1) := dk_27 (dk_at dksX0_setSign_0 1 rfl rfl)
theorem dX0_setSign_2 : decode cX0_setSign 2 = .ok (.invokevirtual 83, 3) := dk_182 0 83 (dk_at dksX0_setSign_0 2 rfl rfl)
theorem dX0_setSign_5 : decode cX0_setSign 5 = .ok (.ifCond .ne 5, 3) := dk_154 0 5 (dk_at dksX0_setSign_0 5 rfl rfl)
theorem dX0_setSign_8 : decode cX0_setSign 8 = .ok (.iconst (-1), 1) := dk_2 (dk_at dksX0_setSign_0 8 rfl rfl)
theorem dX0_setSign_9 : decode cX0_setSign 9 = .ok (.ireturn, 1) := dk_172 (dk_at dksX0_setSign_0 9 rfl rfl)
theorem dX0_setSign_10 : decode cX0_setSign 10 = .ok (.iload_n 2, 1) := dk_28 (dk_at dksX0_setSign_0 10 rfl rfl)
theorem dX0_setSign_11 : decode cX0_setSign 11 = .ok (.invokestatic 87, 3) := dk_184 0 87 (dk_at dksX0_setSign_0 11 rfl rfl)
theorem dX0_setSign_14 : decode cX0_setSign 14 = .ok (.ifCond .ne 12, 3) := dk_154 0 12 (dk_at dksX0_setSign_0 14 rfl rfl)
theorem dX0_setSign_17 : decode cX0_setSign 17 = .ok (.iload_n 2, 1) := dk_28 (dk_at dksX0_setSign_0 17 rfl rfl)
theorem dX0_setSign_18 : decode cX0_setSign 18 = .ok (.bipush 46, 2) := dk_16 46 (dk_at dksX0_setSign_0 18 rfl rfl)
theorem dX0_setSign_20 : decode cX0_setSign 20 = .ok (.if_icmp .eq 6, 3) := dk_159 0 6 (dk_at dksX0_setSign_0 20 rfl rfl)
theorem dX0_setSign_23 : decode cX0_setSign 23 = .ok (.bipush (-2), 2) := dk_16 254 (dk_at dksX0_setSign_1 0 rfl rfl)
theorem dX0_setSign_25 : decode cX0_setSign 25 = .ok (.ireturn, 1) := dk_172 (dk_at dksX0_setSign_1 2 rfl rfl)
theorem dX0_setSign_26 : decode cX0_setSign 26 = .ok (.aload_n 0, 1) := dk_42 (dk_at dksX0_setSign_1 3 rfl rfl)
theorem dX0_setSign_27 : decode cX0_setSign 27 = .ok (.getfield 17, 3) := dk_180 0 17 (dk_at dksX0_setSign_1 4 rfl rfl)
theorem dX0_setSign_30 : decode cX0_setSign 30 = .ok (.getfield 53, 3) := dk_180 0 53 (dk_at dksX0_setSign_1 7 rfl rfl)
theorem dX0_setSign_33 : decode cX0_setSign 33 = .ok (.iload_n 1, 1) := dk_27 (dk_at dksX0_setSign_1 10 rfl rfl)
theorem dX0_setSign_34 : decode cX0_setSign 34 = .ok (.invokeinterface 56 2, 5) := by decide +kernel
theorem dX0_setSign_39 : decode cX0_setSign 39 = .ok (.checkcast 59, 3) := dk_192 0 59 (dk_at dksX0_setSign_1 16 rfl rfl)
theorem dX0_setSign_42 : decode cX0_setSign 42 = .ok (.astore_n 3, 1) := dk_78 (dk_at dksX0_setSign_1 19 rfl rfl)
theorem dX0_setSign_43 : decode cX0_setSign 43 = .ok (.aload_n 3, 1) := dk_45 (dk_at dksX0_setSign_1 20 rfl rfl)
theorem dX0_setSign_44 : decode cX0_setSign 44 = .ok (.getfield 91, 3) := dk_180 0 91 (dk_at dksX0_setSign_1 21 rfl rfl)
theorem dX0_setSign_47 : decode cX0_setSign 47 = .ok (.istore 4, 2) := dk_54 4 (dk_at dksX0_setSign_2 0 rfl rfl)
theorem dX0_setSign_49 : decode cX0_setSign 49 = .ok (.iload 4, 2) := dk_21 4 (dk_at dksX0_setSign_2 2 rfl rfl)
theorem dX0_setSign_51 : decode cX0_setSign 51 = .ok (.iload_n 2, 1) := dk_28 (dk_at dksX0_setSign_2 4 rfl rfl)
theorem dX0_setSign_52 : decode cX0_setSign 52 = .ok (.if_icmp .ne 15, 3) := dk_160 0 15 (dk_at dksX0_setSign_2 5 rfl rfl)
theorem dX0_setSign_55 : decode cX0_setSign 55 = .ok (.aload_n 3, 1) := dk_45 (dk_at dksX0_setSign_2 8 rfl rfl)
theorem dX0_setSign_56 : decode cX0_setSign 56 = .ok (.getfield 95, 3) := dk_180 0 95 (dk_at dksX0_setSign_2 9 rfl rfl)
theorem dX0_setSign_59 : decode cX0_setSign 59 = .ok (.bipush (-5), 2) := dk_16 251 (dk_at dksX0_setSign_2 12 rfl rfl)
theorem dX0_setSign_61 : decode cX0_setSign 61 = .ok (.if_icmp .ne 6, 3) := dk_160 0 6 (dk_at dksX0_setSign_2 14 rfl rfl)
theorem dX0_setSign_64 : decode cX0_setSign 64 = .ok (.bipush (-5), 2) := dk_16 251 (dk_at dksX0_setSign_2 17 rfl rfl)
theorem dX0_setSign_66 : decode cX0_setSign 66 = .ok (.ireturn, 1) := dk_172 (dk_at dksX0_setSign_2 19 rfl rfl)
theorem dX0_setSign_67 : decode cX0_setSign 67 = .ok (.aload_n 0, 1) := dk_42 (dk_at dksX0_setSign_2 20 rfl rfl)
theorem dX0_setSign_68 : decode cX0_setSign 68 = .ok (.aload_n 0, 1) := dk_42 (dk_at dksX0_setSign_2 21 rfl rfl)
theorem dX0_setSign_69 : decode cX0_setSign 69 = .ok (.getfield 17, 3) := dk_180 0 17 (dk_at dksX0_setSign_3 0 rfl rfl)
theorem dX0_setSign_72 : decode cX0_setSign 72 = .ok (.invokevirtual 75, 3) := dk_182 0 75 (dk_at dksX0_setSign_3 3 rfl rfl)
theorem dX0_setSign_75 : decode cX0_setSign 75 = .ok (.invokevirtual 79, 3) := dk_182 0 79 (dk_at dksX0_setSign_3 6 rfl rfl)
theorem dX0_setSign_78 : decode cX0_setSign 78 = .ok (.aload_n 3, 1) := dk_45 (dk_at dksX0_setSign_3 9 rfl rfl)
theorem dX0_setSign_79 : decode cX0_setSign 79 = .ok (.iload_n 2, 1) := dk_28 (dk_at dksX0_setSign_3 10 rfl rfl)
theorem dX0_setSign_80 : decode cX0_setSign 80 = .ok (.putfield 91, 3) := dk_181 0 91 (dk_at dksX0_setSign_3 11 rfl rfl)
theorem dX0_setSign_83 : decode cX0_setSign 83 = .ok (.aload_n 3, 1) := dk_45 (dk_at dksX0_setSign_3 14 rfl rfl)
theorem dX0_setSign_84 : decode cX0_setSign 84 = .ok (.bipush (-5), 2) := dk_16 251 (dk_at dksX0_setSign_3 15 rfl rfl)
theorem dX0_setSign_86 : decode cX0_setSign 86 = .ok (.putfield 95, 3) := dk_181 0 95 (dk_at dksX0_setSign_3 17 rfl rfl)
theorem dX0_setSign_89 : decode cX0_setSign 89 = .ok (.iload 4, 2) := dk_21 4 (dk_at dksX0_setSign_3 20 rfl rfl)
theorem dX0_setSign_91 : decode cX0_setSign 91 = .ok (.ireturn, 1) := dk_172 (dk_at dksX0_setSign_3 22 rfl rfl)
abbrev cX0_isKey : ByteArray := prog_1_method_8_code
def yX0_isKey : MethodName := ⟨RX0, "isKey", "(I)Z"⟩
def dkwX0_isKey_0 : List UInt8 := [27, 3, 42, 180, 0, 17, 180, 0, 53, 185, 0, 39, 1, 0, 4, 100, 184, 0, 3, 172]
abbrev dktX0_isKey_0 : List UInt8 := dkwX0_isKey_0 ++ []
theorem dksX0_isKey_0 : cX0_isKey.data.toList.drop 0 = dktX0_isKey_0 := by decide +kernel
theorem dX0_isKey_0 : decode cX0_isKey 0 = .ok (.iload_n 1, 1) := dk_27 (dk_at dksX0_isKey_0 0 rfl rfl)
theorem dX0_isKey_1 : decode cX0_isKey 1 = .ok (.iconst 0, 1) := dk_3 (dk_at dksX0_isKey_0 1 rfl rfl)
theorem dX0_isKey_2 : decode cX0_isKey 2 = .ok (.aload_n 0, 1) := dk_42 (dk_at dksX0_isKey_0 2 rfl rfl)
theorem dX0_isKey_3 : decode cX0_isKey 3 = .ok (.getfield 17, 3) := dk_180 0 17 (dk_at dksX0_isKey_0 3 rfl rfl)
theorem dX0_isKey_6 : decode cX0_isKey 6 = .ok (.getfield 53, 3) := dk_180 0 53 (dk_at dksX0_isKey_0 6 rfl rfl)
theorem dX0_isKey_9 : decode cX0_isKey 9 = .ok (.invokeinterface 39 1, 5) := by decide +kernel
theorem dX0_isKey_14 : decode cX0_isKey 14 = .ok (.iconst 1, 1) := dk_4 (dk_at dksX0_isKey_0 14 rfl rfl)
theorem dX0_isKey_15 : decode cX0_isKey 15 = .ok (.isub, 1) := dk_100 (dk_at dksX0_isKey_0 15 rfl rfl)
theorem dX0_isKey_16 : decode cX0_isKey 16 = .ok (.invokestatic 3, 3) := dk_184 0 3 (dk_at dksX0_isKey_0 16 rfl rfl)
theorem dX0_isKey_19 : decode cX0_isKey 19 = .ok (.ireturn, 1) := dk_172 (dk_at dksX0_isKey_0 19 rfl rfl)
abbrev cX0_isLetter : ByteArray := prog_1_method_3_code
def yX0_isLetter : MethodName := ⟨RX0, "isLetter", "(C)Z"⟩
def dkwX0_isLetter_0 : List UInt8 := [26, 16, 97, 161, 0, 13, 26, 16, 122, 163, 0, 7, 4, 167, 0, 4, 3, 172]
abbrev dktX0_isLetter_0 : List UInt8 := dkwX0_isLetter_0 ++ []
theorem dksX0_isLetter_0 : cX0_isLetter.data.toList.drop 0 = dktX0_isLetter_0 := by decide +kernel
theorem dX0_isLetter_0 : decode cX0_isLetter 0 = .ok (.iload_n 0, 1) := dk_26 (dk_at dksX0_isLetter_0 0 rfl rfl)
theorem dX0_isLetter_1 : decode cX0_isLetter 1 = .ok (.bipush 97, 2) := dk_16 97 (dk_at dksX0_isLetter_0 1 rfl rfl)
theorem dX0_isLetter_3 : decode cX0_isLetter 3 = .ok (.if_icmp .lt 13, 3) := dk_161 0 13 (dk_at dksX0_isLetter_0 3 rfl rfl)
theorem dX0_isLetter_6 : decode cX0_isLetter 6 = .ok (.iload_n 0, 1) := dk_26 (dk_at dksX0_isLetter_0 6 rfl rfl)
theorem dX0_isLetter_7 : decode cX0_isLetter 7 = .ok (.bipush 122, 2) := dk_16 122 (dk_at dksX0_isLetter_0 7 rfl rfl)
theorem dX0_isLetter_9 : decode cX0_isLetter 9 = .ok (.if_icmp .gt 7, 3) := dk_163 0 7 (dk_at dksX0_isLetter_0 9 rfl rfl)
theorem dX0_isLetter_12 : decode cX0_isLetter 12 = .ok (.iconst 1, 1) := dk_4 (dk_at dksX0_isLetter_0 12 rfl rfl)
theorem dX0_isLetter_13 : decode cX0_isLetter 13 = .ok (.goto 4, 3) := dk_167 0 4 (dk_at dksX0_isLetter_0 13 rfl rfl)
theorem dX0_isLetter_16 : decode cX0_isLetter 16 = .ok (.iconst 0, 1) := dk_3 (dk_at dksX0_isLetter_0 16 rfl rfl)
theorem dX0_isLetter_17 : decode cX0_isLetter 17 = .ok (.ireturn, 1) := dk_172 (dk_at dksX0_isLetter_0 17 rfl rfl)
abbrev cX0_setShift : ByteArray := prog_1_method_11_code
def yX0_setShift : MethodName := ⟨RX0, "setShift", "(II)I"⟩
def dkwX0_setShift_5 : List UInt8 := [181, 0, 91, 21, 4, 16, 251, 160, 0, 7, 28, 167, 0, 5, 21, 4, 172]
abbrev dktX0_setShift_5 : List UInt8 := dkwX0_setShift_5 ++ []
def dkwX0_setShift_4 : List UInt8 := [21, 4, 185, 0, 56, 2, 0, 192, 0, 59, 16, 251, 181, 0, 95, 45, 27, 181, 0, 95, 45, 16, 46]
abbrev dktX0_setShift_4 : List UInt8 := dkwX0_setShift_4 ++ dktX0_setShift_5
def dkwX0_setShift_3 : List UInt8 := [180, 0, 17, 27, 182, 0, 101, 54, 4, 21, 4, 16, 251, 159, 0, 25, 42, 180, 0, 17, 180, 0, 53]
abbrev dktX0_setShift_3 : List UInt8 := dkwX0_setShift_3 ++ dktX0_setShift_4
def dkwX0_setShift_2 : List UInt8 := [180, 0, 95, 27, 160, 0, 6, 16, 251, 172, 42, 42, 180, 0, 17, 182, 0, 75, 182, 0, 79, 42]
abbrev dktX0_setShift_2 : List UInt8 := dkwX0_setShift_2 ++ dktX0_setShift_3
def dkwX0_setShift_1 : List UInt8 := [28, 185, 0, 56, 2, 0, 192, 0, 59, 78, 45, 180, 0, 95, 4, 27, 100, 160, 0, 6, 16, 252, 172, 45]
abbrev dktX0_setShift_1 : List UInt8 := dkwX0_setShift_1 ++ dktX0_setShift_2
def dkwX0_setShift_0 : List UInt8 := [27, 184, 0, 98, 153, 0, 11, 42, 28, 182, 0, 83, 154, 0, 5, 2, 172, 42, 180, 0, 17, 180, 0, 53]
abbrev dktX0_setShift_0 : List UInt8 := dkwX0_setShift_0 ++ dktX0_setShift_1
theorem dksX0_setShift_0 : cX0_setShift.data.toList.drop 0 = dktX0_setShift_0 := by decide +kernel
theorem dksX0_setShift_1 : cX0_setShift.data.toList.drop 24 = dktX0_setShift_1 := dk_seg dksX0_setShift_0 24 rfl rfl
theorem dksX0_setShift_2 : cX0_setShift.data.toList.drop 48 = dktX0_setShift_2 := dk_seg dksX0_setShift_1 24 rfl rfl
theorem dksX0_setShift_3 : cX0_setShift.data.toList.drop 70 = dktX0_setShift_3 := dk_seg dksX0_setShift_2 22 rfl rfl
theorem dksX0_setShift_4 : cX0_setShift.data.toList.drop 93 = dktX0_setShift_4 := dk_seg dksX0_setShift_3 23 rfl rfl
theorem dksX0_setShift_5 : cX0_setShift.data.toList.drop 116 = dktX0_setShift_5 := dk_seg dksX0_setShift_4 23 rfl rfl
theorem dX0_setShift_0 : decode cX0_setShift 0 = .ok (.iload_n 1, 1) := dk_27 (dk_at dksX0_setShift_0 0 rfl rfl)
theorem dX0_setShift_1 : decode cX0_setShift 1 = .ok (.invokestatic 98, 3) := dk_184 0 98 (dk_at dksX0_setShift_0 1 rfl rfl)
theorem dX0_setShift_4 : decode cX0_setShift 4 = .ok (.ifCond .eq 11, 3) := dk_153 0 11 (dk_at dksX0_setShift_0 4 rfl rfl)
theorem dX0_setShift_7 : decode cX0_setShift 7 = .ok (.aload_n 0, 1) := dk_42 (dk_at dksX0_setShift_0 7 rfl rfl)
theorem dX0_setShift_8 : decode cX0_setShift 8 = .ok (.iload_n 2, 1) := dk_28 (dk_at dksX0_setShift_0 8 rfl rfl)
theorem dX0_setShift_9 : decode cX0_setShift 9 = .ok (.invokevirtual 83, 3) := dk_182 0 83 (dk_at dksX0_setShift_0 9 rfl rfl)
theorem dX0_setShift_12 : decode cX0_setShift 12 = .ok (.ifCond .ne 5, 3) := dk_154 0 5 (dk_at dksX0_setShift_0 12 rfl rfl)
theorem dX0_setShift_15 : decode cX0_setShift 15 = .ok (.iconst (-1), 1) := dk_2 (dk_at dksX0_setShift_0 15 rfl rfl)
theorem dX0_setShift_16 : decode cX0_setShift 16 = .ok (.ireturn, 1) := dk_172 (dk_at dksX0_setShift_0 16 rfl rfl)
theorem dX0_setShift_17 : decode cX0_setShift 17 = .ok (.aload_n 0, 1) := dk_42 (dk_at dksX0_setShift_0 17 rfl rfl)
theorem dX0_setShift_18 : decode cX0_setShift 18 = .ok (.getfield 17, 3) := dk_180 0 17 (dk_at dksX0_setShift_0 18 rfl rfl)
theorem dX0_setShift_21 : decode cX0_setShift 21 = .ok (.getfield 53, 3) := dk_180 0 53 (dk_at dksX0_setShift_0 21 rfl rfl)
theorem dX0_setShift_24 : decode cX0_setShift 24 = .ok (.iload_n 2, 1) := dk_28 (dk_at dksX0_setShift_1 0 rfl rfl)
theorem dX0_setShift_25 : decode cX0_setShift 25 = .ok (.invokeinterface 56 2, 5) := by decide +kernel
theorem dX0_setShift_30 : decode cX0_setShift 30 = .ok (.checkcast 59, 3) := dk_192 0 59 (dk_at dksX0_setShift_1 6 rfl rfl)
theorem dX0_setShift_33 : decode cX0_setShift 33 = .ok (.astore_n 3, 1) := dk_78 (dk_at dksX0_setShift_1 9 rfl rfl)
theorem dX0_setShift_34 : decode cX0_setShift 34 = .ok (.aload_n 3, 1) := dk_45 (dk_at dksX0_setShift_1 10 rfl rfl)
theorem dX0_setShift_35 : decode cX0_setShift 35 = .ok (.getfield 95, 3) := dk_180 0 95 (dk_at dksX0_setShift_1 11 rfl rfl)
theorem dX0_setShift_38 : decode cX0_setShift 38 = .ok (.iconst 1, 1) := dk_4 (dk_at dksX0_setShift_1 14 rfl rfl)
theorem dX0_setShift_39 : decode cX0_setShift 39 = .ok (.iload_n 1, 1) := dk_27 (dk_at dksX0_setShift_1 15 rfl rfl)
theorem dX0_setShift_40 : decode cX0_setShift 40 = .ok (.isub, 1) := dk_100 (dk_at dksX0_setShift_1 16 rfl rfl)
theorem dX0_setShift_41 : decode cX0_setShift 41 = .ok (.if_icmp .ne 6, 3) := dk_160 0 6 (dk_at dksX0_setShift_1 17 rfl rfl)
theorem dX0_setShift_44 : decode cX0_setShift 44 = .ok (.bipush (-4), 2) := dk_16 252 (dk_at dksX0_setShift_1 20 rfl rfl)
theorem dX0_setShift_46 : decode cX0_setShift 46 = .ok (.ireturn, 1) := dk_172 (dk_at dksX0_setShift_1 22 rfl rfl)
theorem dX0_setShift_47 : decode cX0_setShift 47 = .ok (.aload_n 3, 1) := dk_45 (dk_at dksX0_setShift_1 23 rfl rfl)
theorem dX0_setShift_48 : decode cX0_setShift 48 = .ok (.getfield 95, 3) := dk_180 0 95 (dk_at dksX0_setShift_2 0 rfl rfl)
theorem dX0_setShift_51 : decode cX0_setShift 51 = .ok (.iload_n 1, 1) := dk_27 (dk_at dksX0_setShift_2 3 rfl rfl)
theorem dX0_setShift_52 : decode cX0_setShift 52 = .ok (.if_icmp .ne 6, 3) := dk_160 0 6 (dk_at dksX0_setShift_2 4 rfl rfl)
theorem dX0_setShift_55 : decode cX0_setShift 55 = .ok (.bipush (-5), 2) := dk_16 251 (dk_at dksX0_setShift_2 7 rfl rfl)
theorem dX0_setShift_57 : decode cX0_setShift 57 = .ok (.ireturn, 1) := dk_172 (dk_at dksX0_setShift_2 9 rfl rfl)
theorem dX0_setShift_58 : decode cX0_setShift 58 = .ok (.aload_n 0, 1) := dk_42 (dk_at dksX0_setShift_2 10 rfl rfl)
theorem dX0_setShift_59 : decode cX0_setShift 59 = .ok (.aload_n 0, 1) := dk_42 (dk_at dksX0_setShift_2 11 rfl rfl)
theorem dX0_setShift_60 : decode cX0_setShift 60 = .ok (.getfield 17, 3) := dk_180 0 17 (dk_at dksX0_setShift_2 12 rfl rfl)
theorem dX0_setShift_63 : decode cX0_setShift 63 = .ok (.invokevirtual 75, 3) := dk_182 0 75 (dk_at dksX0_setShift_2 15 rfl rfl)
theorem dX0_setShift_66 : decode cX0_setShift 66 = .ok (.invokevirtual 79, 3) := dk_182 0 79 (dk_at dksX0_setShift_2 18 rfl rfl)
theorem dX0_setShift_69 : decode cX0_setShift 69 = .ok (.aload_n 0, 1) := dk_42 (dk_at dksX0_setShift_2 21 rfl rfl)
theorem dX0_setShift_70 : decode cX0_setShift 70 = .ok (.getfield 17, 3) := dk_180 0 17 (dk_at dksX0_setShift_3 0 rfl rfl)
theorem dX0_setShift_73 : decode cX0_setShift 73 = .ok (.iload_n 1, 1) := dk_27 (dk_at dksX0_setShift_3 3 rfl rfl)
theorem dX0_setShift_74 : decode cX0_setShift 74 = .ok (.invokevirtual 101, 3) := dk_182 0 101 (dk_at dksX0_setShift_3 4 rfl rfl)
theorem dX0_setShift_77 : decode cX0_setShift 77 = .ok (.istore 4, 2) := dk_54 4 (dk_at dksX0_setShift_3 7 rfl rfl)
theorem dX0_setShift_79 : decode cX0_setShift 79 = .ok (.iload 4, 2) := dk_21 4 (dk_at dksX0_setShift_3 9 rfl rfl)
theorem dX0_setShift_81 : decode cX0_setShift 81 = .ok (.bipush (-5), 2) := dk_16 251 (dk_at dksX0_setShift_3 11 rfl rfl)
theorem dX0_setShift_83 : decode cX0_setShift 83 = .ok (.if_icmp .eq 25, 3) := dk_159 0 25 (dk_at dksX0_setShift_3 13 rfl rfl)
theorem dX0_setShift_86 : decode cX0_setShift 86 = .ok (.aload_n 0, 1) := dk_42 (dk_at dksX0_setShift_3 16 rfl rfl)
theorem dX0_setShift_87 : decode cX0_setShift 87 = .ok (.getfield 17, 3) := dk_180 0 17 (dk_at dksX0_setShift_3 17 rfl rfl)
theorem dX0_setShift_90 : decode cX0_setShift 90 = .ok (.getfield 53, 3) := dk_180 0 53 (dk_at dksX0_setShift_3 20 rfl rfl)
theorem dX0_setShift_93 : decode cX0_setShift 93 = .ok (.iload 4, 2) := dk_21 4 (dk_at dksX0_setShift_4 0 rfl rfl)
theorem dX0_setShift_95 : decode cX0_setShift 95 = .ok (.invokeinterface 56 2, 5) := by decide +kernel
theorem dX0_setShift_100 : decode cX0_setShift 100 = .ok (.checkcast 59, 3) := dk_192 0 59 (dk_at dksX0_setShift_4 7 rfl rfl)
theorem dX0_setShift_103 : decode cX0_setShift 103 = .ok (.bipush (-5), 2) := dk_16 251 (dk_at dksX0_setShift_4 10 rfl rfl)
theorem dX0_setShift_105 : decode cX0_setShift 105 = .ok (.putfield 95, 3) := dk_181 0 95 (dk_at dksX0_setShift_4 12 rfl rfl)
theorem dX0_setShift_108 : decode cX0_setShift 108 = .ok (.aload_n 3, 1) := dk_45 (dk_at dksX0_setShift_4 15 rfl rfl)
theorem dX0_setShift_109 : decode cX0_setShift 109 = .ok (.iload_n 1, 1) := dk_27 (dk_at dksX0_setShift_4 16 rfl rfl)
theorem dX0_setShift_110 : decode cX0_setShift 110 = .ok (.putfield 95, 3) := dk_181 0 95 (dk_at dksX0_setShift_4 17 rfl rfl)
theorem dX0_setShift_113 : decode cX0_setShift 113 = .ok (.aload_n 3, 1) := dk_45 (dk_at dksX0_setShift_4 20 rfl rfl)
theorem dX0_setShift_114 : decode cX0_setShift 114 = .ok (.bipush 46, 2) := dk_16 46 (dk_at dksX0_setShift_4 21 rfl rfl)
theorem dX0_setShift_116 : decode cX0_setShift 116 = .ok (.putfield 91, 3) := dk_181 0 91 (dk_at dksX0_setShift_5 0 rfl rfl)
theorem dX0_setShift_119 : decode cX0_setShift 119 = .ok (.iload 4, 2) := dk_21 4 (dk_at dksX0_setShift_5 3 rfl rfl)
theorem dX0_setShift_121 : decode cX0_setShift 121 = .ok (.bipush (-5), 2) := dk_16 251 (dk_at dksX0_setShift_5 5 rfl rfl)
theorem dX0_setShift_123 : decode cX0_setShift 123 = .ok (.if_icmp .ne 7, 3) := dk_160 0 7 (dk_at dksX0_setShift_5 7 rfl rfl)
theorem dX0_setShift_126 : decode cX0_setShift 126 = .ok (.iload_n 2, 1) := dk_28 (dk_at dksX0_setShift_5 10 rfl rfl)
theorem dX0_setShift_127 : decode cX0_setShift 127 = .ok (.goto 5, 3) := dk_167 0 5 (dk_at dksX0_setShift_5 11 rfl rfl)
theorem dX0_setShift_130 : decode cX0_setShift 130 = .ok (.iload 4, 2) := dk_21 4 (dk_at dksX0_setShift_5 14 rfl rfl)
theorem dX0_setShift_132 : decode cX0_setShift 132 = .ok (.ireturn, 1) := dk_172 (dk_at dksX0_setShift_5 16 rfl rfl)
abbrev cX0_isTypist : ByteArray := prog_1_method_2_code
def yX0_isTypist : MethodName := ⟨RX0, "isTypist", "(I)Z"⟩
def dkwX0_isTypist_0 : List UInt8 := [26, 3, 4, 184, 0, 3, 172]
abbrev dktX0_isTypist_0 : List UInt8 := dkwX0_isTypist_0 ++ []
theorem dksX0_isTypist_0 : cX0_isTypist.data.toList.drop 0 = dktX0_isTypist_0 := by decide +kernel
theorem dX0_isTypist_0 : decode cX0_isTypist 0 = .ok (.iload_n 0, 1) := dk_26 (dk_at dksX0_isTypist_0 0 rfl rfl)
theorem dX0_isTypist_1 : decode cX0_isTypist 1 = .ok (.iconst 0, 1) := dk_3 (dk_at dksX0_isTypist_0 1 rfl rfl)
theorem dX0_isTypist_2 : decode cX0_isTypist 2 = .ok (.iconst 1, 1) := dk_4 (dk_at dksX0_isTypist_0 2 rfl rfl)
theorem dX0_isTypist_3 : decode cX0_isTypist 3 = .ok (.invokestatic 3, 3) := dk_184 0 3 (dk_at dksX0_isTypist_0 3 rfl rfl)
theorem dX0_isTypist_6 : decode cX0_isTypist 6 = .ok (.ireturn, 1) := dk_172 (dk_at dksX0_isTypist_0 6 rfl rfl)
abbrev cX0_borrow : ByteArray := prog_1_method_12_code
def yX0_borrow : MethodName := ⟨RX0, "borrow", "(IZ)I"⟩
def dkwX0_borrow_3 : List UInt8 := [51, 153, 0, 7, 4, 167, 0, 4, 3, 96, 172]
abbrev dktX0_borrow_3 : List UInt8 := dkwX0_borrow_3 ++ []
def dkwX0_borrow_2 : List UInt8 := [180, 0, 17, 180, 0, 104, 3, 51, 153, 0, 7, 4, 167, 0, 4, 3, 42, 180, 0, 17, 180, 0, 104, 4]
abbrev dktX0_borrow_2 : List UInt8 := dkwX0_borrow_2 ++ dktX0_borrow_3
def dkwX0_borrow_1 : List UInt8 := [172, 42, 42, 180, 0, 17, 182, 0, 75, 182, 0, 79, 42, 180, 0, 17, 180, 0, 104, 27, 28, 84, 42]
abbrev dktX0_borrow_1 : List UInt8 := dkwX0_borrow_1 ++ dktX0_borrow_2
def dkwX0_borrow_0 : List UInt8 := [27, 184, 0, 98, 154, 0, 5, 2, 172, 42, 180, 0, 17, 180, 0, 104, 27, 51, 28, 160, 0, 6, 16, 251]
abbrev dktX0_borrow_0 : List UInt8 := dkwX0_borrow_0 ++ dktX0_borrow_1
theorem dksX0_borrow_0 : cX0_borrow.data.toList.drop 0 = dktX0_borrow_0 := by decide +kernel
theorem dksX0_borrow_1 : cX0_borrow.data.toList.drop 24 = dktX0_borrow_1 := dk_seg dksX0_borrow_0 24 rfl rfl
theorem dksX0_borrow_2 : cX0_borrow.data.toList.drop 47 = dktX0_borrow_2 := dk_seg dksX0_borrow_1 23 rfl rfl
theorem dksX0_borrow_3 : cX0_borrow.data.toList.drop 71 = dktX0_borrow_3 := dk_seg dksX0_borrow_2 24 rfl rfl
theorem dX0_borrow_0 : decode cX0_borrow 0 = .ok (.iload_n 1, 1) := dk_27 (dk_at dksX0_borrow_0 0 rfl rfl)
theorem dX0_borrow_1 : decode cX0_borrow 1 = .ok (.invokestatic 98, 3) := dk_184 0 98 (dk_at dksX0_borrow_0 1 rfl rfl)
theorem dX0_borrow_4 : decode cX0_borrow 4 = .ok (.ifCond .ne 5, 3) := dk_154 0 5 (dk_at dksX0_borrow_0 4 rfl rfl)
theorem dX0_borrow_7 : decode cX0_borrow 7 = .ok (.iconst (-1), 1) := dk_2 (dk_at dksX0_borrow_0 7 rfl rfl)
theorem dX0_borrow_8 : decode cX0_borrow 8 = .ok (.ireturn, 1) := dk_172 (dk_at dksX0_borrow_0 8 rfl rfl)
theorem dX0_borrow_9 : decode cX0_borrow 9 = .ok (.aload_n 0, 1) := dk_42 (dk_at dksX0_borrow_0 9 rfl rfl)
theorem dX0_borrow_10 : decode cX0_borrow 10 = .ok (.getfield 17, 3) := dk_180 0 17 (dk_at dksX0_borrow_0 10 rfl rfl)
theorem dX0_borrow_13 : decode cX0_borrow 13 = .ok (.getfield 104, 3) := dk_180 0 104 (dk_at dksX0_borrow_0 13 rfl rfl)
theorem dX0_borrow_16 : decode cX0_borrow 16 = .ok (.iload_n 1, 1) := dk_27 (dk_at dksX0_borrow_0 16 rfl rfl)
theorem dX0_borrow_17 : decode cX0_borrow 17 = .ok (.baload, 1) := dk_51 (dk_at dksX0_borrow_0 17 rfl rfl)
theorem dX0_borrow_18 : decode cX0_borrow 18 = .ok (.iload_n 2, 1) := dk_28 (dk_at dksX0_borrow_0 18 rfl rfl)
theorem dX0_borrow_19 : decode cX0_borrow 19 = .ok (.if_icmp .ne 6, 3) := dk_160 0 6 (dk_at dksX0_borrow_0 19 rfl rfl)
theorem dX0_borrow_22 : decode cX0_borrow 22 = .ok (.bipush (-5), 2) := dk_16 251 (dk_at dksX0_borrow_0 22 rfl rfl)
theorem dX0_borrow_24 : decode cX0_borrow 24 = .ok (.ireturn, 1) := dk_172 (dk_at dksX0_borrow_1 0 rfl rfl)
theorem dX0_borrow_25 : decode cX0_borrow 25 = .ok (.aload_n 0, 1) := dk_42 (dk_at dksX0_borrow_1 1 rfl rfl)
theorem dX0_borrow_26 : decode cX0_borrow 26 = .ok (.aload_n 0, 1) := dk_42 (dk_at dksX0_borrow_1 2 rfl rfl)
theorem dX0_borrow_27 : decode cX0_borrow 27 = .ok (.getfield 17, 3) := dk_180 0 17 (dk_at dksX0_borrow_1 3 rfl rfl)
theorem dX0_borrow_30 : decode cX0_borrow 30 = .ok (.invokevirtual 75, 3) := dk_182 0 75 (dk_at dksX0_borrow_1 6 rfl rfl)
theorem dX0_borrow_33 : decode cX0_borrow 33 = .ok (.invokevirtual 79, 3) := dk_182 0 79 (dk_at dksX0_borrow_1 9 rfl rfl)
theorem dX0_borrow_36 : decode cX0_borrow 36 = .ok (.aload_n 0, 1) := dk_42 (dk_at dksX0_borrow_1 12 rfl rfl)
theorem dX0_borrow_37 : decode cX0_borrow 37 = .ok (.getfield 17, 3) := dk_180 0 17 (dk_at dksX0_borrow_1 13 rfl rfl)
theorem dX0_borrow_40 : decode cX0_borrow 40 = .ok (.getfield 104, 3) := dk_180 0 104 (dk_at dksX0_borrow_1 16 rfl rfl)
theorem dX0_borrow_43 : decode cX0_borrow 43 = .ok (.iload_n 1, 1) := dk_27 (dk_at dksX0_borrow_1 19 rfl rfl)
theorem dX0_borrow_44 : decode cX0_borrow 44 = .ok (.iload_n 2, 1) := dk_28 (dk_at dksX0_borrow_1 20 rfl rfl)
theorem dX0_borrow_45 : decode cX0_borrow 45 = .ok (.bastore, 1) := dk_84 (dk_at dksX0_borrow_1 21 rfl rfl)
theorem dX0_borrow_46 : decode cX0_borrow 46 = .ok (.aload_n 0, 1) := dk_42 (dk_at dksX0_borrow_1 22 rfl rfl)
theorem dX0_borrow_47 : decode cX0_borrow 47 = .ok (.getfield 17, 3) := dk_180 0 17 (dk_at dksX0_borrow_2 0 rfl rfl)
theorem dX0_borrow_50 : decode cX0_borrow 50 = .ok (.getfield 104, 3) := dk_180 0 104 (dk_at dksX0_borrow_2 3 rfl rfl)
theorem dX0_borrow_53 : decode cX0_borrow 53 = .ok (.iconst 0, 1) := dk_3 (dk_at dksX0_borrow_2 6 rfl rfl)
theorem dX0_borrow_54 : decode cX0_borrow 54 = .ok (.baload, 1) := dk_51 (dk_at dksX0_borrow_2 7 rfl rfl)
theorem dX0_borrow_55 : decode cX0_borrow 55 = .ok (.ifCond .eq 7, 3) := dk_153 0 7 (dk_at dksX0_borrow_2 8 rfl rfl)
theorem dX0_borrow_58 : decode cX0_borrow 58 = .ok (.iconst 1, 1) := dk_4 (dk_at dksX0_borrow_2 11 rfl rfl)
theorem dX0_borrow_59 : decode cX0_borrow 59 = .ok (.goto 4, 3) := dk_167 0 4 (dk_at dksX0_borrow_2 12 rfl rfl)
theorem dX0_borrow_62 : decode cX0_borrow 62 = .ok (.iconst 0, 1) := dk_3 (dk_at dksX0_borrow_2 15 rfl rfl)
theorem dX0_borrow_63 : decode cX0_borrow 63 = .ok (.aload_n 0, 1) := dk_42 (dk_at dksX0_borrow_2 16 rfl rfl)
theorem dX0_borrow_64 : decode cX0_borrow 64 = .ok (.getfield 17, 3) := dk_180 0 17 (dk_at dksX0_borrow_2 17 rfl rfl)
theorem dX0_borrow_67 : decode cX0_borrow 67 = .ok (.getfield 104, 3) := dk_180 0 104 (dk_at dksX0_borrow_2 20 rfl rfl)
theorem dX0_borrow_70 : decode cX0_borrow 70 = .ok (.iconst 1, 1) := dk_4 (dk_at dksX0_borrow_2 23 rfl rfl)
theorem dX0_borrow_71 : decode cX0_borrow 71 = .ok (.baload, 1) := dk_51 (dk_at dksX0_borrow_3 0 rfl rfl)
theorem dX0_borrow_72 : decode cX0_borrow 72 = .ok (.ifCond .eq 7, 3) := dk_153 0 7 (dk_at dksX0_borrow_3 1 rfl rfl)
theorem dX0_borrow_75 : decode cX0_borrow 75 = .ok (.iconst 1, 1) := dk_4 (dk_at dksX0_borrow_3 4 rfl rfl)
theorem dX0_borrow_76 : decode cX0_borrow 76 = .ok (.goto 4, 3) := dk_167 0 4 (dk_at dksX0_borrow_3 5 rfl rfl)
theorem dX0_borrow_79 : decode cX0_borrow 79 = .ok (.iconst 0, 1) := dk_3 (dk_at dksX0_borrow_3 8 rfl rfl)
theorem dX0_borrow_80 : decode cX0_borrow 80 = .ok (.iadd, 1) := dk_96 (dk_at dksX0_borrow_3 9 rfl rfl)
theorem dX0_borrow_81 : decode cX0_borrow 81 = .ok (.ireturn, 1) := dk_172 (dk_at dksX0_borrow_3 10 rfl rfl)
abbrev cX0_set : ByteArray := prog_1_method_14_code
def yX0_set : MethodName := ⟨RX0, "set", "(II)I"⟩
def dkwX0_set_4 : List UInt8 := [182, 0, 79, 42, 180, 0, 17, 180, 0, 119, 27, 37, 81, 21, 5, 172]
abbrev dktX0_set_4 : List UInt8 := dkwX0_set_4 ++ []
def dkwX0_set_3 : List UInt8 := [184, 0, 123, 54, 5, 21, 5, 28, 160, 0, 6, 16, 251, 172, 42, 42, 180, 0, 17, 182, 0, 75]
abbrev dktX0_set_3 : List UInt8 := dkwX0_set_3 ++ dktX0_set_4
def dkwX0_set_2 : List UInt8 := [167, 0, 4, 3, 54, 4, 21, 4, 154, 0, 6, 16, 254, 172, 42, 180, 0, 17, 180, 0, 119, 27, 48]
abbrev dktX0_set_2 : List UInt8 := dkwX0_set_2 ++ dktX0_set_3
def dkwX0_set_1 : List UInt8 := [172, 28, 184, 0, 110, 70, 37, 11, 149, 155, 0, 16, 37, 27, 184, 0, 116, 150, 157, 0, 7, 4]
abbrev dktX0_set_1 : List UInt8 := dkwX0_set_1 ++ dktX0_set_2
def dkwX0_set_0 : List UInt8 := [27, 3, 5, 184, 0, 3, 154, 0, 6, 16, 254, 172, 28, 155, 0, 9, 28, 18, 109, 164, 0, 6, 16, 254]
abbrev dktX0_set_0 : List UInt8 := dkwX0_set_0 ++ dktX0_set_1
theorem dksX0_set_0 : cX0_set.data.toList.drop 0 = dktX0_set_0 := by decide +kernel
theorem dksX0_set_1 : cX0_set.data.toList.drop 24 = dktX0_set_1 := dk_seg dksX0_set_0 24 rfl rfl
theorem dksX0_set_2 : cX0_set.data.toList.drop 46 = dktX0_set_2 := dk_seg dksX0_set_1 22 rfl rfl
theorem dksX0_set_3 : cX0_set.data.toList.drop 69 = dktX0_set_3 := dk_seg dksX0_set_2 23 rfl rfl
theorem dksX0_set_4 : cX0_set.data.toList.drop 91 = dktX0_set_4 := dk_seg dksX0_set_3 22 rfl rfl
theorem dX0_set_0 : decode cX0_set 0 = .ok (.iload_n 1, 1) := dk_27 (dk_at dksX0_set_0 0 rfl rfl)
theorem dX0_set_1 : decode cX0_set 1 = .ok (.iconst 0, 1) := dk_3 (dk_at dksX0_set_0 1 rfl rfl)
theorem dX0_set_2 : decode cX0_set 2 = .ok (.iconst 2, 1) := dk_5 (dk_at dksX0_set_0 2 rfl rfl)
theorem dX0_set_3 : decode cX0_set 3 = .ok (.invokestatic 3, 3) := dk_184 0 3 (dk_at dksX0_set_0 3 rfl rfl)
theorem dX0_set_6 : decode cX0_set 6 = .ok (.ifCond .ne 6, 3) := dk_154 0 6 (dk_at dksX0_set_0 6 rfl rfl)
theorem dX0_set_9 : decode cX0_set 9 = .ok (.bipush (-2), 2) := dk_16 254 (dk_at dksX0_set_0 9 rfl rfl)
theorem dX0_set_11 : decode cX0_set 11 = .ok (.ireturn, 1) := dk_172 (dk_at dksX0_set_0 11 rfl rfl)
theorem dX0_set_12 : decode cX0_set 12 = .ok (.iload_n 2, 1) := dk_28 (dk_at dksX0_set_0 12 rfl rfl)
theorem dX0_set_13 : decode cX0_set 13 = .ok (.ifCond .lt 9, 3) := dk_155 0 9 (dk_at dksX0_set_0 13 rfl rfl)
theorem dX0_set_16 : decode cX0_set 16 = .ok (.iload_n 2, 1) := dk_28 (dk_at dksX0_set_0 16 rfl rfl)
theorem dX0_set_17 : decode cX0_set 17 = .ok (.ldc 109, 2) := dk_18 109 (dk_at dksX0_set_0 17 rfl rfl)
theorem dX0_set_19 : decode cX0_set 19 = .ok (.if_icmp .le 6, 3) := dk_164 0 6 (dk_at dksX0_set_0 19 rfl rfl)
theorem dX0_set_22 : decode cX0_set 22 = .ok (.bipush (-2), 2) := dk_16 254 (dk_at dksX0_set_0 22 rfl rfl)
theorem dX0_set_24 : decode cX0_set 24 = .ok (.ireturn, 1) := dk_172 (dk_at dksX0_set_1 0 rfl rfl)
theorem dX0_set_25 : decode cX0_set 25 = .ok (.iload_n 2, 1) := dk_28 (dk_at dksX0_set_1 1 rfl rfl)
theorem dX0_set_26 : decode cX0_set 26 = .ok (.invokestatic 110, 3) := dk_184 0 110 (dk_at dksX0_set_1 2 rfl rfl)
theorem dX0_set_29 : decode cX0_set 29 = .ok (.fstore_n 3, 1) := dk_70 (dk_at dksX0_set_1 5 rfl rfl)
theorem dX0_set_30 : decode cX0_set 30 = .ok (.fload_n 3, 1) := dk_37 (dk_at dksX0_set_1 6 rfl rfl)
theorem dX0_set_31 : decode cX0_set 31 = .ok (.fconst 0, 1) := dk_11 (dk_at dksX0_set_1 7 rfl rfl)
theorem dX0_set_32 : decode cX0_set 32 = .ok (.fcmp .l, 1) := dk_149 (dk_at dksX0_set_1 8 rfl rfl)
theorem dX0_set_33 : decode cX0_set 33 = .ok (.ifCond .lt 16, 3) := dk_155 0 16 (dk_at dksX0_set_1 9 rfl rfl)
theorem dX0_set_36 : decode cX0_set 36 = .ok (.fload_n 3, 1) := dk_37 (dk_at dksX0_set_1 12 rfl rfl)
theorem dX0_set_37 : decode cX0_set 37 = .ok (.iload_n 1, 1) := dk_27 (dk_at dksX0_set_1 13 rfl rfl)
theorem dX0_set_38 : decode cX0_set 38 = .ok (.invokestatic 116, 3) := dk_184 0 116 (dk_at dksX0_set_1 14 rfl rfl)
theorem dX0_set_41 : decode cX0_set 41 = .ok (.fcmp .g, 1) := dk_150 (dk_at dksX0_set_1 17 rfl rfl)
theorem dX0_set_42 : decode cX0_set 42 = .ok (.ifCond .gt 7, 3) := dk_157 0 7 (dk_at dksX0_set_1 18 rfl rfl)
theorem dX0_set_45 : decode cX0_set 45 = .ok (.iconst 1, 1) := dk_4 (dk_at dksX0_set_1 21 rfl rfl)
theorem dX0_set_46 : decode cX0_set 46 = .ok (.goto 4, 3) := dk_167 0 4 (dk_at dksX0_set_2 0 rfl rfl)
theorem dX0_set_49 : decode cX0_set 49 = .ok (.iconst 0, 1) := dk_3 (dk_at dksX0_set_2 3 rfl rfl)
theorem dX0_set_50 : decode cX0_set 50 = .ok (.istore 4, 2) := dk_54 4 (dk_at dksX0_set_2 4 rfl rfl)
theorem dX0_set_52 : decode cX0_set 52 = .ok (.iload 4, 2) := dk_21 4 (dk_at dksX0_set_2 6 rfl rfl)
theorem dX0_set_54 : decode cX0_set 54 = .ok (.ifCond .ne 6, 3) := dk_154 0 6 (dk_at dksX0_set_2 8 rfl rfl)
theorem dX0_set_57 : decode cX0_set 57 = .ok (.bipush (-2), 2) := dk_16 254 (dk_at dksX0_set_2 11 rfl rfl)
theorem dX0_set_59 : decode cX0_set 59 = .ok (.ireturn, 1) := dk_172 (dk_at dksX0_set_2 13 rfl rfl)
theorem dX0_set_60 : decode cX0_set 60 = .ok (.aload_n 0, 1) := dk_42 (dk_at dksX0_set_2 14 rfl rfl)
theorem dX0_set_61 : decode cX0_set 61 = .ok (.getfield 17, 3) := dk_180 0 17 (dk_at dksX0_set_2 15 rfl rfl)
theorem dX0_set_64 : decode cX0_set 64 = .ok (.getfield 119, 3) := dk_180 0 119 (dk_at dksX0_set_2 18 rfl rfl)
theorem dX0_set_67 : decode cX0_set 67 = .ok (.iload_n 1, 1) := dk_27 (dk_at dksX0_set_2 21 rfl rfl)
theorem dX0_set_68 : decode cX0_set 68 = .ok (.faload, 1) := dk_48 (dk_at dksX0_set_2 22 rfl rfl)
theorem dX0_set_69 : decode cX0_set 69 = .ok (.invokestatic 123, 3) := dk_184 0 123 (dk_at dksX0_set_3 0 rfl rfl)
theorem dX0_set_72 : decode cX0_set 72 = .ok (.istore 5, 2) := dk_54 5 (dk_at dksX0_set_3 3 rfl rfl)
theorem dX0_set_74 : decode cX0_set 74 = .ok (.iload 5, 2) := dk_21 5 (dk_at dksX0_set_3 5 rfl rfl)
theorem dX0_set_76 : decode cX0_set 76 = .ok (.iload_n 2, 1) := dk_28 (dk_at dksX0_set_3 7 rfl rfl)
theorem dX0_set_77 : decode cX0_set 77 = .ok (.if_icmp .ne 6, 3) := dk_160 0 6 (dk_at dksX0_set_3 8 rfl rfl)
theorem dX0_set_80 : decode cX0_set 80 = .ok (.bipush (-5), 2) := dk_16 251 (dk_at dksX0_set_3 11 rfl rfl)
theorem dX0_set_82 : decode cX0_set 82 = .ok (.ireturn, 1) := dk_172 (dk_at dksX0_set_3 13 rfl rfl)
theorem dX0_set_83 : decode cX0_set 83 = .ok (.aload_n 0, 1) := dk_42 (dk_at dksX0_set_3 14 rfl rfl)
theorem dX0_set_84 : decode cX0_set 84 = .ok (.aload_n 0, 1) := dk_42 (dk_at dksX0_set_3 15 rfl rfl)
theorem dX0_set_85 : decode cX0_set 85 = .ok (.getfield 17, 3) := dk_180 0 17 (dk_at dksX0_set_3 16 rfl rfl)
theorem dX0_set_88 : decode cX0_set 88 = .ok (.invokevirtual 75, 3) := dk_182 0 75 (dk_at dksX0_set_3 19 rfl rfl)
theorem dX0_set_91 : decode cX0_set 91 = .ok (.invokevirtual 79, 3) := dk_182 0 79 (dk_at dksX0_set_4 0 rfl rfl)
theorem dX0_set_94 : decode cX0_set 94 = .ok (.aload_n 0, 1) := dk_42 (dk_at dksX0_set_4 3 rfl rfl)
theorem dX0_set_95 : decode cX0_set 95 = .ok (.getfield 17, 3) := dk_180 0 17 (dk_at dksX0_set_4 4 rfl rfl)
theorem dX0_set_98 : decode cX0_set 98 = .ok (.getfield 119, 3) := dk_180 0 119 (dk_at dksX0_set_4 7 rfl rfl)
theorem dX0_set_101 : decode cX0_set 101 = .ok (.iload_n 1, 1) := dk_27 (dk_at dksX0_set_4 10 rfl rfl)
theorem dX0_set_102 : decode cX0_set 102 = .ok (.fload_n 3, 1) := dk_37 (dk_at dksX0_set_4 11 rfl rfl)
theorem dX0_set_103 : decode cX0_set 103 = .ok (.fastore, 1) := dk_81 (dk_at dksX0_set_4 12 rfl rfl)
theorem dX0_set_104 : decode cX0_set 104 = .ok (.iload 5, 2) := dk_21 5 (dk_at dksX0_set_4 13 rfl rfl)
theorem dX0_set_106 : decode cX0_set 106 = .ok (.ireturn, 1) := dk_172 (dk_at dksX0_set_4 15 rfl rfl)
abbrev cX0_mostOf : ByteArray := prog_1_method_13_code
def yX0_mostOf : MethodName := ⟨RX0, "mostOf", "(I)F"⟩
def dkwX0_mostOf_0 : List UInt8 := [26, 154, 0, 7, 13, 167, 0, 14, 26, 4, 160, 0, 8, 18, 108, 167, 0, 4, 12, 174]
abbrev dktX0_mostOf_0 : List UInt8 := dkwX0_mostOf_0 ++ []
theorem dksX0_mostOf_0 : cX0_mostOf.data.toList.drop 0 = dktX0_mostOf_0 := by decide +kernel
theorem dX0_mostOf_0 : decode cX0_mostOf 0 = .ok (.iload_n 0, 1) := dk_26 (dk_at dksX0_mostOf_0 0 rfl rfl)
theorem dX0_mostOf_1 : decode cX0_mostOf 1 = .ok (.ifCond .ne 7, 3) := dk_154 0 7 (dk_at dksX0_mostOf_0 1 rfl rfl)
theorem dX0_mostOf_4 : decode cX0_mostOf 4 = .ok (.fconst 2, 1) := dk_13 (dk_at dksX0_mostOf_0 4 rfl rfl)
theorem dX0_mostOf_5 : decode cX0_mostOf 5 = .ok (.goto 14, 3) := dk_167 0 14 (dk_at dksX0_mostOf_0 5 rfl rfl)
theorem dX0_mostOf_8 : decode cX0_mostOf 8 = .ok (.iload_n 0, 1) := dk_26 (dk_at dksX0_mostOf_0 8 rfl rfl)
theorem dX0_mostOf_9 : decode cX0_mostOf 9 = .ok (.iconst 1, 1) := dk_4 (dk_at dksX0_mostOf_0 9 rfl rfl)
theorem dX0_mostOf_10 : decode cX0_mostOf 10 = .ok (.if_icmp .ne 8, 3) := dk_160 0 8 (dk_at dksX0_mostOf_0 10 rfl rfl)
theorem dX0_mostOf_13 : decode cX0_mostOf 13 = .ok (.ldc 108, 2) := dk_18 108 (dk_at dksX0_mostOf_0 13 rfl rfl)
theorem dX0_mostOf_15 : decode cX0_mostOf 15 = .ok (.goto 4, 3) := dk_167 0 4 (dk_at dksX0_mostOf_0 15 rfl rfl)
theorem dX0_mostOf_18 : decode cX0_mostOf 18 = .ok (.fconst 1, 1) := dk_12 (dk_at dksX0_mostOf_0 18 rfl rfl)
theorem dX0_mostOf_19 : decode cX0_mostOf 19 = .ok (.freturn, 1) := dk_174 (dk_at dksX0_mostOf_0 19 rfl rfl)
abbrev cX0_press : ByteArray := prog_1_method_16_code
def yX0_press : MethodName := ⟨RX0, "press", "(II)I"⟩
def dkwX0_press_0 : List UInt8 := [42, 180, 0, 17, 182, 0, 75, 78, 42, 45, 45, 27, 28, 182, 0, 127, 182, 0, 131, 172]
abbrev dktX0_press_0 : List UInt8 := dkwX0_press_0 ++ []
theorem dksX0_press_0 : cX0_press.data.toList.drop 0 = dktX0_press_0 := by decide +kernel
theorem dX0_press_0 : decode cX0_press 0 = .ok (.aload_n 0, 1) := dk_42 (dk_at dksX0_press_0 0 rfl rfl)
theorem dX0_press_1 : decode cX0_press 1 = .ok (.getfield 17, 3) := dk_180 0 17 (dk_at dksX0_press_0 1 rfl rfl)
theorem dX0_press_4 : decode cX0_press 4 = .ok (.invokevirtual 75, 3) := dk_182 0 75 (dk_at dksX0_press_0 4 rfl rfl)
theorem dX0_press_7 : decode cX0_press 7 = .ok (.astore_n 3, 1) := dk_78 (dk_at dksX0_press_0 7 rfl rfl)
theorem dX0_press_8 : decode cX0_press 8 = .ok (.aload_n 0, 1) := dk_42 (dk_at dksX0_press_0 8 rfl rfl)
theorem dX0_press_9 : decode cX0_press 9 = .ok (.aload_n 3, 1) := dk_45 (dk_at dksX0_press_0 9 rfl rfl)
theorem dX0_press_10 : decode cX0_press 10 = .ok (.aload_n 3, 1) := dk_45 (dk_at dksX0_press_0 10 rfl rfl)
theorem dX0_press_11 : decode cX0_press 11 = .ok (.iload_n 1, 1) := dk_27 (dk_at dksX0_press_0 11 rfl rfl)
theorem dX0_press_12 : decode cX0_press 12 = .ok (.iload_n 2, 1) := dk_28 (dk_at dksX0_press_0 12 rfl rfl)
theorem dX0_press_13 : decode cX0_press 13 = .ok (.invokevirtual 127, 3) := dk_182 0 127 (dk_at dksX0_press_0 13 rfl rfl)
theorem dX0_press_16 : decode cX0_press 16 = .ok (.invokevirtual 131, 3) := dk_182 0 131 (dk_at dksX0_press_0 16 rfl rfl)
theorem dX0_press_19 : decode cX0_press 19 = .ok (.ireturn, 1) := dk_172 (dk_at dksX0_press_0 19 rfl rfl)
abbrev cX0_take : ByteArray := prog_1_method_15_code
def yX0_take : MethodName := ⟨RX0, "take", "(LBlanketKeys$State;I)I"⟩
def dkwX0_take_0 : List UInt8 := [28, 156, 0, 5, 28, 172, 42, 42, 180, 0, 17, 182, 0, 79, 42, 43, 181, 0, 17, 28, 172]
abbrev dktX0_take_0 : List UInt8 := dkwX0_take_0 ++ []
theorem dksX0_take_0 : cX0_take.data.toList.drop 0 = dktX0_take_0 := by decide +kernel
theorem dX0_take_0 : decode cX0_take 0 = .ok (.iload_n 2, 1) := dk_28 (dk_at dksX0_take_0 0 rfl rfl)
theorem dX0_take_1 : decode cX0_take 1 = .ok (.ifCond .ge 5, 3) := dk_156 0 5 (dk_at dksX0_take_0 1 rfl rfl)
theorem dX0_take_4 : decode cX0_take 4 = .ok (.iload_n 2, 1) := dk_28 (dk_at dksX0_take_0 4 rfl rfl)
theorem dX0_take_5 : decode cX0_take 5 = .ok (.ireturn, 1) := dk_172 (dk_at dksX0_take_0 5 rfl rfl)
theorem dX0_take_6 : decode cX0_take 6 = .ok (.aload_n 0, 1) := dk_42 (dk_at dksX0_take_0 6 rfl rfl)
theorem dX0_take_7 : decode cX0_take 7 = .ok (.aload_n 0, 1) := dk_42 (dk_at dksX0_take_0 7 rfl rfl)
theorem dX0_take_8 : decode cX0_take 8 = .ok (.getfield 17, 3) := dk_180 0 17 (dk_at dksX0_take_0 8 rfl rfl)
theorem dX0_take_11 : decode cX0_take 11 = .ok (.invokevirtual 79, 3) := dk_182 0 79 (dk_at dksX0_take_0 11 rfl rfl)
theorem dX0_take_14 : decode cX0_take 14 = .ok (.aload_n 0, 1) := dk_42 (dk_at dksX0_take_0 14 rfl rfl)
theorem dX0_take_15 : decode cX0_take 15 = .ok (.aload_n 1, 1) := dk_43 (dk_at dksX0_take_0 15 rfl rfl)
theorem dX0_take_16 : decode cX0_take 16 = .ok (.putfield 17, 3) := dk_181 0 17 (dk_at dksX0_take_0 16 rfl rfl)
theorem dX0_take_19 : decode cX0_take 19 = .ok (.iload_n 2, 1) := dk_28 (dk_at dksX0_take_0 19 rfl rfl)
theorem dX0_take_20 : decode cX0_take 20 = .ok (.ireturn, 1) := dk_172 (dk_at dksX0_take_0 20 rfl rfl)
abbrev cX0_release : ByteArray := prog_1_method_17_code
def yX0_release : MethodName := ⟨RX0, "release", "(II)I"⟩
def dkwX0_release_0 : List UInt8 := [42, 180, 0, 17, 182, 0, 75, 78, 42, 45, 45, 27, 28, 182, 0, 135, 182, 0, 131, 172]
abbrev dktX0_release_0 : List UInt8 := dkwX0_release_0 ++ []
theorem dksX0_release_0 : cX0_release.data.toList.drop 0 = dktX0_release_0 := by decide +kernel
theorem dX0_release_0 : decode cX0_release 0 = .ok (.aload_n 0, 1) := dk_42 (dk_at dksX0_release_0 0 rfl rfl)
theorem dX0_release_1 : decode cX0_release 1 = .ok (.getfield 17, 3) := dk_180 0 17 (dk_at dksX0_release_0 1 rfl rfl)
theorem dX0_release_4 : decode cX0_release 4 = .ok (.invokevirtual 75, 3) := dk_182 0 75 (dk_at dksX0_release_0 4 rfl rfl)
theorem dX0_release_7 : decode cX0_release 7 = .ok (.astore_n 3, 1) := dk_78 (dk_at dksX0_release_0 7 rfl rfl)
theorem dX0_release_8 : decode cX0_release 8 = .ok (.aload_n 0, 1) := dk_42 (dk_at dksX0_release_0 8 rfl rfl)
theorem dX0_release_9 : decode cX0_release 9 = .ok (.aload_n 3, 1) := dk_45 (dk_at dksX0_release_0 9 rfl rfl)
theorem dX0_release_10 : decode cX0_release 10 = .ok (.aload_n 3, 1) := dk_45 (dk_at dksX0_release_0 10 rfl rfl)
theorem dX0_release_11 : decode cX0_release 11 = .ok (.iload_n 1, 1) := dk_27 (dk_at dksX0_release_0 11 rfl rfl)
theorem dX0_release_12 : decode cX0_release 12 = .ok (.iload_n 2, 1) := dk_28 (dk_at dksX0_release_0 12 rfl rfl)
theorem dX0_release_13 : decode cX0_release 13 = .ok (.invokevirtual 135, 3) := dk_182 0 135 (dk_at dksX0_release_0 13 rfl rfl)
theorem dX0_release_16 : decode cX0_release 16 = .ok (.invokevirtual 131, 3) := dk_182 0 131 (dk_at dksX0_release_0 16 rfl rfl)
theorem dX0_release_19 : decode cX0_release 19 = .ok (.ireturn, 1) := dk_172 (dk_at dksX0_release_0 19 rfl rfl)
abbrev cX0_tick : ByteArray := prog_1_method_18_code
def yX0_tick : MethodName := ⟨RX0, "tick", "(I)I"⟩
def dkwX0_tick_2 : List UInt8 := [167, 255, 238, 28, 172]
abbrev dktX0_tick_2 : List UInt8 := dkwX0_tick_2 ++ []
def dkwX0_tick_1 : List UInt8 := [3, 61, 3, 62, 29, 27, 162, 0, 19, 28, 42, 180, 0, 17, 182, 0, 138, 96, 61, 132, 3, 1]
abbrev dktX0_tick_1 : List UInt8 := dkwX0_tick_1 ++ dktX0_tick_2
def dkwX0_tick_0 : List UInt8 := [27, 4, 16, 99, 184, 0, 3, 154, 0, 6, 16, 254, 172, 42, 42, 180, 0, 17, 182, 0, 75, 182, 0, 79]
abbrev dktX0_tick_0 : List UInt8 := dkwX0_tick_0 ++ dktX0_tick_1
theorem dksX0_tick_0 : cX0_tick.data.toList.drop 0 = dktX0_tick_0 := by decide +kernel
theorem dksX0_tick_1 : cX0_tick.data.toList.drop 24 = dktX0_tick_1 := dk_seg dksX0_tick_0 24 rfl rfl
theorem dksX0_tick_2 : cX0_tick.data.toList.drop 46 = dktX0_tick_2 := dk_seg dksX0_tick_1 22 rfl rfl
theorem dX0_tick_0 : decode cX0_tick 0 = .ok (.iload_n 1, 1) := dk_27 (dk_at dksX0_tick_0 0 rfl rfl)
theorem dX0_tick_1 : decode cX0_tick 1 = .ok (.iconst 1, 1) := dk_4 (dk_at dksX0_tick_0 1 rfl rfl)
theorem dX0_tick_2 : decode cX0_tick 2 = .ok (.bipush 99, 2) := dk_16 99 (dk_at dksX0_tick_0 2 rfl rfl)
theorem dX0_tick_4 : decode cX0_tick 4 = .ok (.invokestatic 3, 3) := dk_184 0 3 (dk_at dksX0_tick_0 4 rfl rfl)
theorem dX0_tick_7 : decode cX0_tick 7 = .ok (.ifCond .ne 6, 3) := dk_154 0 6 (dk_at dksX0_tick_0 7 rfl rfl)
theorem dX0_tick_10 : decode cX0_tick 10 = .ok (.bipush (-2), 2) := dk_16 254 (dk_at dksX0_tick_0 10 rfl rfl)
theorem dX0_tick_12 : decode cX0_tick 12 = .ok (.ireturn, 1) := dk_172 (dk_at dksX0_tick_0 12 rfl rfl)
theorem dX0_tick_13 : decode cX0_tick 13 = .ok (.aload_n 0, 1) := dk_42 (dk_at dksX0_tick_0 13 rfl rfl)
theorem dX0_tick_14 : decode cX0_tick 14 = .ok (.aload_n 0, 1) := dk_42 (dk_at dksX0_tick_0 14 rfl rfl)
theorem dX0_tick_15 : decode cX0_tick 15 = .ok (.getfield 17, 3) := dk_180 0 17 (dk_at dksX0_tick_0 15 rfl rfl)
theorem dX0_tick_18 : decode cX0_tick 18 = .ok (.invokevirtual 75, 3) := dk_182 0 75 (dk_at dksX0_tick_0 18 rfl rfl)
theorem dX0_tick_21 : decode cX0_tick 21 = .ok (.invokevirtual 79, 3) := dk_182 0 79 (dk_at dksX0_tick_0 21 rfl rfl)
theorem dX0_tick_24 : decode cX0_tick 24 = .ok (.iconst 0, 1) := dk_3 (dk_at dksX0_tick_1 0 rfl rfl)
theorem dX0_tick_25 : decode cX0_tick 25 = .ok (.istore_n 2, 1) := dk_61 (dk_at dksX0_tick_1 1 rfl rfl)
theorem dX0_tick_26 : decode cX0_tick 26 = .ok (.iconst 0, 1) := dk_3 (dk_at dksX0_tick_1 2 rfl rfl)
theorem dX0_tick_27 : decode cX0_tick 27 = .ok (.istore_n 3, 1) := dk_62 (dk_at dksX0_tick_1 3 rfl rfl)
theorem dX0_tick_28 : decode cX0_tick 28 = .ok (.iload_n 3, 1) := dk_29 (dk_at dksX0_tick_1 4 rfl rfl)
theorem dX0_tick_29 : decode cX0_tick 29 = .ok (.iload_n 1, 1) := dk_27 (dk_at dksX0_tick_1 5 rfl rfl)
theorem dX0_tick_30 : decode cX0_tick 30 = .ok (.if_icmp .ge 19, 3) := dk_162 0 19 (dk_at dksX0_tick_1 6 rfl rfl)
theorem dX0_tick_33 : decode cX0_tick 33 = .ok (.iload_n 2, 1) := dk_28 (dk_at dksX0_tick_1 9 rfl rfl)
theorem dX0_tick_34 : decode cX0_tick 34 = .ok (.aload_n 0, 1) := dk_42 (dk_at dksX0_tick_1 10 rfl rfl)
theorem dX0_tick_35 : decode cX0_tick 35 = .ok (.getfield 17, 3) := dk_180 0 17 (dk_at dksX0_tick_1 11 rfl rfl)
theorem dX0_tick_38 : decode cX0_tick 38 = .ok (.invokevirtual 138, 3) := dk_182 0 138 (dk_at dksX0_tick_1 14 rfl rfl)
theorem dX0_tick_41 : decode cX0_tick 41 = .ok (.iadd, 1) := dk_96 (dk_at dksX0_tick_1 17 rfl rfl)
theorem dX0_tick_42 : decode cX0_tick 42 = .ok (.istore_n 2, 1) := dk_61 (dk_at dksX0_tick_1 18 rfl rfl)
theorem dX0_tick_43 : decode cX0_tick 43 = .ok (.iinc 3 1, 3) := dk_132 3 1 (dk_at dksX0_tick_1 19 rfl rfl)
theorem dX0_tick_46 : decode cX0_tick 46 = .ok (.goto (-18), 3) := dk_167 255 238 (dk_at dksX0_tick_2 0 rfl rfl)
theorem dX0_tick_49 : decode cX0_tick 49 = .ok (.iload_n 2, 1) := dk_28 (dk_at dksX0_tick_2 3 rfl rfl)
theorem dX0_tick_50 : decode cX0_tick 50 = .ok (.ireturn, 1) := dk_172 (dk_at dksX0_tick_2 4 rfl rfl)
abbrev cX0_size : ByteArray := prog_1_method_4_code
def yX0_size : MethodName := ⟨RX0, "size", "(F)F"⟩
def dkwX0_size_0 : List UInt8 := [34, 11, 150, 156, 0, 8, 34, 118, 167, 0, 4, 34, 174]
abbrev dktX0_size_0 : List UInt8 := dkwX0_size_0 ++ []
theorem dksX0_size_0 : cX0_size.data.toList.drop 0 = dktX0_size_0 := by decide +kernel
theorem dX0_size_0 : decode cX0_size 0 = .ok (.fload_n 0, 1) := dk_34 (dk_at dksX0_size_0 0 rfl rfl)
theorem dX0_size_1 : decode cX0_size 1 = .ok (.fconst 0, 1) := dk_11 (dk_at dksX0_size_0 1 rfl rfl)
theorem dX0_size_2 : decode cX0_size 2 = .ok (.fcmp .g, 1) := dk_150 (dk_at dksX0_size_0 2 rfl rfl)
theorem dX0_size_3 : decode cX0_size 3 = .ok (.ifCond .ge 8, 3) := dk_156 0 8 (dk_at dksX0_size_0 3 rfl rfl)
theorem dX0_size_6 : decode cX0_size 6 = .ok (.fload_n 0, 1) := dk_34 (dk_at dksX0_size_0 6 rfl rfl)
theorem dX0_size_7 : decode cX0_size 7 = .ok (.fneg, 1) := dk_118 (dk_at dksX0_size_0 7 rfl rfl)
theorem dX0_size_8 : decode cX0_size 8 = .ok (.goto 4, 3) := dk_167 0 4 (dk_at dksX0_size_0 8 rfl rfl)
theorem dX0_size_11 : decode cX0_size 11 = .ok (.fload_n 0, 1) := dk_34 (dk_at dksX0_size_0 11 rfl rfl)
theorem dX0_size_12 : decode cX0_size 12 = .ok (.freturn, 1) := dk_174 (dk_at dksX0_size_0 12 rfl rfl)
abbrev cX0_settle : ByteArray := prog_1_method_20_code
def yX0_settle : MethodName := ⟨RX0, "settle", "(II)I"⟩
def dkwX0_settle_3 : List UInt8 := [180, 0, 17, 180, 0, 141, 27, 185, 0, 56, 2, 0, 192, 0, 147, 180, 0, 155, 172]
abbrev dktX0_settle_3 : List UInt8 := dkwX0_settle_3 ++ []
def dkwX0_settle_2 : List UInt8 := [172, 42, 42, 180, 0, 17, 182, 0, 75, 182, 0, 79, 42, 180, 0, 17, 27, 28, 182, 0, 152, 42]
abbrev dktX0_settle_2 : List UInt8 := dkwX0_settle_2 ++ dktX0_settle_3
def dkwX0_settle_1 : List UInt8 := [180, 0, 17, 180, 0, 141, 27, 185, 0, 56, 2, 0, 192, 0, 147, 180, 0, 149, 6, 159, 0, 6, 16, 252]
abbrev dktX0_settle_1 : List UInt8 := dkwX0_settle_1 ++ dktX0_settle_2
def dkwX0_settle_0 : List UInt8 := [42, 27, 182, 0, 144, 154, 0, 5, 2, 172, 28, 3, 5, 184, 0, 3, 154, 0, 6, 16, 254, 172, 42]
abbrev dktX0_settle_0 : List UInt8 := dkwX0_settle_0 ++ dktX0_settle_1
theorem dksX0_settle_0 : cX0_settle.data.toList.drop 0 = dktX0_settle_0 := by decide +kernel
theorem dksX0_settle_1 : cX0_settle.data.toList.drop 23 = dktX0_settle_1 := dk_seg dksX0_settle_0 23 rfl rfl
theorem dksX0_settle_2 : cX0_settle.data.toList.drop 47 = dktX0_settle_2 := dk_seg dksX0_settle_1 24 rfl rfl
theorem dksX0_settle_3 : cX0_settle.data.toList.drop 69 = dktX0_settle_3 := dk_seg dksX0_settle_2 22 rfl rfl
theorem dX0_settle_0 : decode cX0_settle 0 = .ok (.aload_n 0, 1) := dk_42 (dk_at dksX0_settle_0 0 rfl rfl)
theorem dX0_settle_1 : decode cX0_settle 1 = .ok (.iload_n 1, 1) := dk_27 (dk_at dksX0_settle_0 1 rfl rfl)
theorem dX0_settle_2 : decode cX0_settle 2 = .ok (.invokevirtual 144, 3) := dk_182 0 144 (dk_at dksX0_settle_0 2 rfl rfl)
theorem dX0_settle_5 : decode cX0_settle 5 = .ok (.ifCond .ne 5, 3) := dk_154 0 5 (dk_at dksX0_settle_0 5 rfl rfl)
theorem dX0_settle_8 : decode cX0_settle 8 = .ok (.iconst (-1), 1) := dk_2 (dk_at dksX0_settle_0 8 rfl rfl)
theorem dX0_settle_9 : decode cX0_settle 9 = .ok (.ireturn, 1) := dk_172 (dk_at dksX0_settle_0 9 rfl rfl)
theorem dX0_settle_10 : decode cX0_settle 10 = .ok (.iload_n 2, 1) := dk_28 (dk_at dksX0_settle_0 10 rfl rfl)
theorem dX0_settle_11 : decode cX0_settle 11 = .ok (.iconst 0, 1) := dk_3 (dk_at dksX0_settle_0 11 rfl rfl)
theorem dX0_settle_12 : decode cX0_settle 12 = .ok (.iconst 2, 1) := dk_5 (dk_at dksX0_settle_0 12 rfl rfl)
theorem dX0_settle_13 : decode cX0_settle 13 = .ok (.invokestatic 3, 3) := dk_184 0 3 (dk_at dksX0_settle_0 13 rfl rfl)
theorem dX0_settle_16 : decode cX0_settle 16 = .ok (.ifCond .ne 6, 3) := dk_154 0 6 (dk_at dksX0_settle_0 16 rfl rfl)
theorem dX0_settle_19 : decode cX0_settle 19 = .ok (.bipush (-2), 2) := dk_16 254 (dk_at dksX0_settle_0 19 rfl rfl)
theorem dX0_settle_21 : decode cX0_settle 21 = .ok (.ireturn, 1) := dk_172 (dk_at dksX0_settle_0 21 rfl rfl)
theorem dX0_settle_22 : decode cX0_settle 22 = .ok (.aload_n 0, 1) := dk_42 (dk_at dksX0_settle_0 22 rfl rfl)
theorem dX0_settle_23 : decode cX0_settle 23 = .ok (.getfield 17, 3) := dk_180 0 17 (dk_at dksX0_settle_1 0 rfl rfl)
theorem dX0_settle_26 : decode cX0_settle 26 = .ok (.getfield 141, 3) := dk_180 0 141 (dk_at dksX0_settle_1 3 rfl rfl)
theorem dX0_settle_29 : decode cX0_settle 29 = .ok (.iload_n 1, 1) := dk_27 (dk_at dksX0_settle_1 6 rfl rfl)
theorem dX0_settle_30 : decode cX0_settle 30 = .ok (.invokeinterface 56 2, 5) := by decide +kernel
theorem dX0_settle_35 : decode cX0_settle 35 = .ok (.checkcast 147, 3) := dk_192 0 147 (dk_at dksX0_settle_1 12 rfl rfl)
theorem dX0_settle_38 : decode cX0_settle 38 = .ok (.getfield 149, 3) := dk_180 0 149 (dk_at dksX0_settle_1 15 rfl rfl)
theorem dX0_settle_41 : decode cX0_settle 41 = .ok (.iconst 3, 1) := dk_6 (dk_at dksX0_settle_1 18 rfl rfl)
theorem dX0_settle_42 : decode cX0_settle 42 = .ok (.if_icmp .eq 6, 3) := dk_159 0 6 (dk_at dksX0_settle_1 19 rfl rfl)
theorem dX0_settle_45 : decode cX0_settle 45 = .ok (.bipush (-4), 2) := dk_16 252 (dk_at dksX0_settle_1 22 rfl rfl)
theorem dX0_settle_47 : decode cX0_settle 47 = .ok (.ireturn, 1) := dk_172 (dk_at dksX0_settle_2 0 rfl rfl)
theorem dX0_settle_48 : decode cX0_settle 48 = .ok (.aload_n 0, 1) := dk_42 (dk_at dksX0_settle_2 1 rfl rfl)
theorem dX0_settle_49 : decode cX0_settle 49 = .ok (.aload_n 0, 1) := dk_42 (dk_at dksX0_settle_2 2 rfl rfl)
theorem dX0_settle_50 : decode cX0_settle 50 = .ok (.getfield 17, 3) := dk_180 0 17 (dk_at dksX0_settle_2 3 rfl rfl)
theorem dX0_settle_53 : decode cX0_settle 53 = .ok (.invokevirtual 75, 3) := dk_182 0 75 (dk_at dksX0_settle_2 6 rfl rfl)
theorem dX0_settle_56 : decode cX0_settle 56 = .ok (.invokevirtual 79, 3) := dk_182 0 79 (dk_at dksX0_settle_2 9 rfl rfl)
theorem dX0_settle_59 : decode cX0_settle 59 = .ok (.aload_n 0, 1) := dk_42 (dk_at dksX0_settle_2 12 rfl rfl)
theorem dX0_settle_60 : decode cX0_settle 60 = .ok (.getfield 17, 3) := dk_180 0 17 (dk_at dksX0_settle_2 13 rfl rfl)
theorem dX0_settle_63 : decode cX0_settle 63 = .ok (.iload_n 1, 1) := dk_27 (dk_at dksX0_settle_2 16 rfl rfl)
theorem dX0_settle_64 : decode cX0_settle 64 = .ok (.iload_n 2, 1) := dk_28 (dk_at dksX0_settle_2 17 rfl rfl)
theorem dX0_settle_65 : decode cX0_settle 65 = .ok (.invokevirtual 152, 3) := dk_182 0 152 (dk_at dksX0_settle_2 18 rfl rfl)
theorem dX0_settle_68 : decode cX0_settle 68 = .ok (.aload_n 0, 1) := dk_42 (dk_at dksX0_settle_2 21 rfl rfl)
theorem dX0_settle_69 : decode cX0_settle 69 = .ok (.getfield 17, 3) := dk_180 0 17 (dk_at dksX0_settle_3 0 rfl rfl)
theorem dX0_settle_72 : decode cX0_settle 72 = .ok (.getfield 141, 3) := dk_180 0 141 (dk_at dksX0_settle_3 3 rfl rfl)
theorem dX0_settle_75 : decode cX0_settle 75 = .ok (.iload_n 1, 1) := dk_27 (dk_at dksX0_settle_3 6 rfl rfl)
theorem dX0_settle_76 : decode cX0_settle 76 = .ok (.invokeinterface 56 2, 5) := by decide +kernel
theorem dX0_settle_81 : decode cX0_settle 81 = .ok (.checkcast 147, 3) := dk_192 0 147 (dk_at dksX0_settle_3 12 rfl rfl)
theorem dX0_settle_84 : decode cX0_settle 84 = .ok (.getfield 155, 3) := dk_180 0 155 (dk_at dksX0_settle_3 15 rfl rfl)
theorem dX0_settle_87 : decode cX0_settle 87 = .ok (.ireturn, 1) := dk_172 (dk_at dksX0_settle_3 18 rfl rfl)
abbrev cX0_isDispute : ByteArray := prog_1_method_19_code
def yX0_isDispute : MethodName := ⟨RX0, "isDispute", "(I)Z"⟩
def dkwX0_isDispute_0 : List UInt8 := [27, 3, 42, 180, 0, 17, 180, 0, 141, 185, 0, 39, 1, 0, 4, 100, 184, 0, 3, 172]
abbrev dktX0_isDispute_0 : List UInt8 := dkwX0_isDispute_0 ++ []
theorem dksX0_isDispute_0 : cX0_isDispute.data.toList.drop 0 = dktX0_isDispute_0 := by decide +kernel
theorem dX0_isDispute_0 : decode cX0_isDispute 0 = .ok (.iload_n 1, 1) := dk_27 (dk_at dksX0_isDispute_0 0 rfl rfl)
theorem dX0_isDispute_1 : decode cX0_isDispute 1 = .ok (.iconst 0, 1) := dk_3 (dk_at dksX0_isDispute_0 1 rfl rfl)
theorem dX0_isDispute_2 : decode cX0_isDispute 2 = .ok (.aload_n 0, 1) := dk_42 (dk_at dksX0_isDispute_0 2 rfl rfl)
theorem dX0_isDispute_3 : decode cX0_isDispute 3 = .ok (.getfield 17, 3) := dk_180 0 17 (dk_at dksX0_isDispute_0 3 rfl rfl)
theorem dX0_isDispute_6 : decode cX0_isDispute 6 = .ok (.getfield 141, 3) := dk_180 0 141 (dk_at dksX0_isDispute_0 6 rfl rfl)
theorem dX0_isDispute_9 : decode cX0_isDispute 9 = .ok (.invokeinterface 39 1, 5) := by decide +kernel
theorem dX0_isDispute_14 : decode cX0_isDispute 14 = .ok (.iconst 1, 1) := dk_4 (dk_at dksX0_isDispute_0 14 rfl rfl)
theorem dX0_isDispute_15 : decode cX0_isDispute 15 = .ok (.isub, 1) := dk_100 (dk_at dksX0_isDispute_0 15 rfl rfl)
theorem dX0_isDispute_16 : decode cX0_isDispute 16 = .ok (.invokestatic 3, 3) := dk_184 0 3 (dk_at dksX0_isDispute_0 16 rfl rfl)
theorem dX0_isDispute_19 : decode cX0_isDispute 19 = .ok (.ireturn, 1) := dk_172 (dk_at dksX0_isDispute_0 19 rfl rfl)
abbrev cX0_type : ByteArray := prog_1_method_21_code
def yX0_type : MethodName := ⟨RX0, "type", "(C)I"⟩
def dkwX0_type_1 : List UInt8 := [42, 180, 0, 31, 182, 0, 158, 172]
abbrev dktX0_type_1 : List UInt8 := dkwX0_type_1 ++ []
def dkwX0_type_0 : List UInt8 := [42, 180, 0, 31, 182, 0, 158, 16, 60, 160, 0, 6, 16, 253, 172, 42, 180, 0, 31, 27, 182, 0, 161, 87]
abbrev dktX0_type_0 : List UInt8 := dkwX0_type_0 ++ dktX0_type_1
theorem dksX0_type_0 : cX0_type.data.toList.drop 0 = dktX0_type_0 := by decide +kernel
theorem dksX0_type_1 : cX0_type.data.toList.drop 24 = dktX0_type_1 := dk_seg dksX0_type_0 24 rfl rfl
theorem dX0_type_0 : decode cX0_type 0 = .ok (.aload_n 0, 1) := dk_42 (dk_at dksX0_type_0 0 rfl rfl)
theorem dX0_type_1 : decode cX0_type 1 = .ok (.getfield 31, 3) := dk_180 0 31 (dk_at dksX0_type_0 1 rfl rfl)
theorem dX0_type_4 : decode cX0_type 4 = .ok (.invokevirtual 158, 3) := dk_182 0 158 (dk_at dksX0_type_0 4 rfl rfl)
theorem dX0_type_7 : decode cX0_type 7 = .ok (.bipush 60, 2) := dk_16 60 (dk_at dksX0_type_0 7 rfl rfl)
theorem dX0_type_9 : decode cX0_type 9 = .ok (.if_icmp .ne 6, 3) := dk_160 0 6 (dk_at dksX0_type_0 9 rfl rfl)
theorem dX0_type_12 : decode cX0_type 12 = .ok (.bipush (-3), 2) := dk_16 253 (dk_at dksX0_type_0 12 rfl rfl)
theorem dX0_type_14 : decode cX0_type 14 = .ok (.ireturn, 1) := dk_172 (dk_at dksX0_type_0 14 rfl rfl)
theorem dX0_type_15 : decode cX0_type 15 = .ok (.aload_n 0, 1) := dk_42 (dk_at dksX0_type_0 15 rfl rfl)
theorem dX0_type_16 : decode cX0_type 16 = .ok (.getfield 31, 3) := dk_180 0 31 (dk_at dksX0_type_0 16 rfl rfl)
theorem dX0_type_19 : decode cX0_type 19 = .ok (.iload_n 1, 1) := dk_27 (dk_at dksX0_type_0 19 rfl rfl)
theorem dX0_type_20 : decode cX0_type 20 = .ok (.invokevirtual 161, 3) := dk_182 0 161 (dk_at dksX0_type_0 20 rfl rfl)
theorem dX0_type_23 : decode cX0_type 23 = .ok (.pop, 1) := dk_87 (dk_at dksX0_type_0 23 rfl rfl)
theorem dX0_type_24 : decode cX0_type 24 = .ok (.aload_n 0, 1) := dk_42 (dk_at dksX0_type_1 0 rfl rfl)
theorem dX0_type_25 : decode cX0_type 25 = .ok (.getfield 31, 3) := dk_180 0 31 (dk_at dksX0_type_1 1 rfl rfl)
theorem dX0_type_28 : decode cX0_type 28 = .ok (.invokevirtual 158, 3) := dk_182 0 158 (dk_at dksX0_type_1 4 rfl rfl)
theorem dX0_type_31 : decode cX0_type 31 = .ok (.ireturn, 1) := dk_172 (dk_at dksX0_type_1 7 rfl rfl)
abbrev cX0_clearText : ByteArray := prog_1_method_22_code
def yX0_clearText : MethodName := ⟨RX0, "clearText", "()I"⟩
def dkwX0_clearText_0 : List UInt8 := [42, 180, 0, 31, 182, 0, 158, 60, 42, 180, 0, 31, 3, 182, 0, 165, 27, 172]
abbrev dktX0_clearText_0 : List UInt8 := dkwX0_clearText_0 ++ []
theorem dksX0_clearText_0 : cX0_clearText.data.toList.drop 0 = dktX0_clearText_0 := by decide +kernel
theorem dX0_clearText_0 : decode cX0_clearText 0 = .ok (.aload_n 0, 1) := dk_42 (dk_at dksX0_clearText_0 0 rfl rfl)
theorem dX0_clearText_1 : decode cX0_clearText 1 = .ok (.getfield 31, 3) := dk_180 0 31 (dk_at dksX0_clearText_0 1 rfl rfl)
theorem dX0_clearText_4 : decode cX0_clearText 4 = .ok (.invokevirtual 158, 3) := dk_182 0 158 (dk_at dksX0_clearText_0 4 rfl rfl)
theorem dX0_clearText_7 : decode cX0_clearText 7 = .ok (.istore_n 1, 1) := dk_60 (dk_at dksX0_clearText_0 7 rfl rfl)
theorem dX0_clearText_8 : decode cX0_clearText 8 = .ok (.aload_n 0, 1) := dk_42 (dk_at dksX0_clearText_0 8 rfl rfl)
theorem dX0_clearText_9 : decode cX0_clearText 9 = .ok (.getfield 31, 3) := dk_180 0 31 (dk_at dksX0_clearText_0 9 rfl rfl)
theorem dX0_clearText_12 : decode cX0_clearText 12 = .ok (.iconst 0, 1) := dk_3 (dk_at dksX0_clearText_0 12 rfl rfl)
theorem dX0_clearText_13 : decode cX0_clearText 13 = .ok (.invokevirtual 165, 3) := dk_182 0 165 (dk_at dksX0_clearText_0 13 rfl rfl)
theorem dX0_clearText_16 : decode cX0_clearText 16 = .ok (.iload_n 1, 1) := dk_27 (dk_at dksX0_clearText_0 16 rfl rfl)
theorem dX0_clearText_17 : decode cX0_clearText 17 = .ok (.ireturn, 1) := dk_172 (dk_at dksX0_clearText_0 17 rfl rfl)
abbrev cX0_perform : ByteArray := prog_1_method_24_code
def yX0_perform : MethodName := ⟨RX0, "perform", "()I"⟩
def dkwX0_perform_4 : List UInt8 := [182, 0, 131, 172]
abbrev dktX0_perform_4 : List UInt8 := dkwX0_perform_4 ++ []
def dkwX0_perform_3 : List UInt8 := [54, 5, 21, 5, 156, 0, 6, 21, 5, 172, 29, 21, 5, 96, 62, 132, 4, 1, 167, 255, 212, 42, 44, 29]
abbrev dktX0_perform_3 : List UInt8 := dkwX0_perform_3 ++ dktX0_perform_4
def dkwX0_perform_2 : List UInt8 := [185, 0, 39, 1, 0, 162, 0, 39, 44, 43, 21, 4, 185, 0, 56, 2, 0, 192, 0, 170, 184, 0, 199]
abbrev dktX0_perform_2 : List UInt8 := dkwX0_perform_2 ++ dktX0_perform_3
def dkwX0_perform_1 : List UInt8 := [180, 0, 196, 100, 172, 42, 180, 0, 17, 182, 0, 75, 77, 3, 62, 3, 54, 4, 21, 4, 43]
abbrev dktX0_perform_1 : List UInt8 := dkwX0_perform_1 ++ dktX0_perform_2
def dkwX0_perform_0 : List UInt8 := [187, 0, 185, 89, 42, 180, 0, 31, 183, 0, 187, 182, 0, 190, 76, 167, 0, 12, 77, 16, 156, 44]
abbrev dktX0_perform_0 : List UInt8 := dkwX0_perform_0 ++ dktX0_perform_1
theorem dksX0_perform_0 : cX0_perform.data.toList.drop 0 = dktX0_perform_0 := by decide +kernel
theorem dksX0_perform_1 : cX0_perform.data.toList.drop 22 = dktX0_perform_1 := dk_seg dksX0_perform_0 22 rfl rfl
theorem dksX0_perform_2 : cX0_perform.data.toList.drop 43 = dktX0_perform_2 := dk_seg dksX0_perform_1 21 rfl rfl
theorem dksX0_perform_3 : cX0_perform.data.toList.drop 66 = dktX0_perform_3 := dk_seg dksX0_perform_2 23 rfl rfl
theorem dksX0_perform_4 : cX0_perform.data.toList.drop 90 = dktX0_perform_4 := dk_seg dksX0_perform_3 24 rfl rfl
theorem dX0_perform_0 : decode cX0_perform 0 = .ok (.new 185, 3) := dk_187 0 185 (dk_at dksX0_perform_0 0 rfl rfl)
theorem dX0_perform_3 : decode cX0_perform 3 = .ok (.dup, 1) := dk_89 (dk_at dksX0_perform_0 3 rfl rfl)
theorem dX0_perform_4 : decode cX0_perform 4 = .ok (.aload_n 0, 1) := dk_42 (dk_at dksX0_perform_0 4 rfl rfl)
theorem dX0_perform_5 : decode cX0_perform 5 = .ok (.getfield 31, 3) := dk_180 0 31 (dk_at dksX0_perform_0 5 rfl rfl)
theorem dX0_perform_8 : decode cX0_perform 8 = .ok (.invokespecial 187, 3) := dk_183 0 187 (dk_at dksX0_perform_0 8 rfl rfl)
theorem dX0_perform_11 : decode cX0_perform 11 = .ok (.invokevirtual 190, 3) := dk_182 0 190 (dk_at dksX0_perform_0 11 rfl rfl)
theorem dX0_perform_14 : decode cX0_perform 14 = .ok (.astore_n 1, 1) := dk_76 (dk_at dksX0_perform_0 14 rfl rfl)
theorem dX0_perform_15 : decode cX0_perform 15 = .ok (.goto 12, 3) := dk_167 0 12 (dk_at dksX0_perform_0 15 rfl rfl)
theorem dX0_perform_18 : decode cX0_perform 18 = .ok (.astore_n 2, 1) := dk_77 (dk_at dksX0_perform_0 18 rfl rfl)
theorem dX0_perform_19 : decode cX0_perform 19 = .ok (.bipush (-100), 2) := dk_16 156 (dk_at dksX0_perform_0 19 rfl rfl)
theorem dX0_perform_21 : decode cX0_perform 21 = .ok (.aload_n 2, 1) := dk_44 (dk_at dksX0_perform_0 21 rfl rfl)
theorem dX0_perform_22 : decode cX0_perform 22 = .ok (.getfield 196, 3) := dk_180 0 196 (dk_at dksX0_perform_1 0 rfl rfl)
theorem dX0_perform_25 : decode cX0_perform 25 = .ok (.isub, 1) := dk_100 (dk_at dksX0_perform_1 3 rfl rfl)
theorem dX0_perform_26 : decode cX0_perform 26 = .ok (.ireturn, 1) := dk_172 (dk_at dksX0_perform_1 4 rfl rfl)
theorem dX0_perform_27 : decode cX0_perform 27 = .ok (.aload_n 0, 1) := dk_42 (dk_at dksX0_perform_1 5 rfl rfl)
theorem dX0_perform_28 : decode cX0_perform 28 = .ok (.getfield 17, 3) := dk_180 0 17 (dk_at dksX0_perform_1 6 rfl rfl)
theorem dX0_perform_31 : decode cX0_perform 31 = .ok (.invokevirtual 75, 3) := dk_182 0 75 (dk_at dksX0_perform_1 9 rfl rfl)
theorem dX0_perform_34 : decode cX0_perform 34 = .ok (.astore_n 2, 1) := dk_77 (dk_at dksX0_perform_1 12 rfl rfl)
theorem dX0_perform_35 : decode cX0_perform 35 = .ok (.iconst 0, 1) := dk_3 (dk_at dksX0_perform_1 13 rfl rfl)
theorem dX0_perform_36 : decode cX0_perform 36 = .ok (.istore_n 3, 1) := dk_62 (dk_at dksX0_perform_1 14 rfl rfl)
theorem dX0_perform_37 : decode cX0_perform 37 = .ok (.iconst 0, 1) := dk_3 (dk_at dksX0_perform_1 15 rfl rfl)
theorem dX0_perform_38 : decode cX0_perform 38 = .ok (.istore 4, 2) := dk_54 4 (dk_at dksX0_perform_1 16 rfl rfl)
theorem dX0_perform_40 : decode cX0_perform 40 = .ok (.iload 4, 2) := dk_21 4 (dk_at dksX0_perform_1 18 rfl rfl)
theorem dX0_perform_42 : decode cX0_perform 42 = .ok (.aload_n 1, 1) := dk_43 (dk_at dksX0_perform_1 20 rfl rfl)
theorem dX0_perform_43 : decode cX0_perform 43 = .ok (.invokeinterface 39 1, 5) := by decide +kernel
theorem dX0_perform_48 : decode cX0_perform 48 = .ok (.if_icmp .ge 39, 3) := dk_162 0 39 (dk_at dksX0_perform_2 5 rfl rfl)
theorem dX0_perform_51 : decode cX0_perform 51 = .ok (.aload_n 2, 1) := dk_44 (dk_at dksX0_perform_2 8 rfl rfl)
theorem dX0_perform_52 : decode cX0_perform 52 = .ok (.aload_n 1, 1) := dk_43 (dk_at dksX0_perform_2 9 rfl rfl)
theorem dX0_perform_53 : decode cX0_perform 53 = .ok (.iload 4, 2) := dk_21 4 (dk_at dksX0_perform_2 10 rfl rfl)
theorem dX0_perform_55 : decode cX0_perform 55 = .ok (.invokeinterface 56 2, 5) := by decide +kernel
theorem dX0_perform_60 : decode cX0_perform 60 = .ok (.checkcast 170, 3) := dk_192 0 170 (dk_at dksX0_perform_2 17 rfl rfl)
theorem dX0_perform_63 : decode cX0_perform 63 = .ok (.invokestatic 199, 3) := dk_184 0 199 (dk_at dksX0_perform_2 20 rfl rfl)
theorem dX0_perform_66 : decode cX0_perform 66 = .ok (.istore 5, 2) := dk_54 5 (dk_at dksX0_perform_3 0 rfl rfl)
theorem dX0_perform_68 : decode cX0_perform 68 = .ok (.iload 5, 2) := dk_21 5 (dk_at dksX0_perform_3 2 rfl rfl)
theorem dX0_perform_70 : decode cX0_perform 70 = .ok (.ifCond .ge 6, 3) := dk_156 0 6 (dk_at dksX0_perform_3 4 rfl rfl)
theorem dX0_perform_73 : decode cX0_perform 73 = .ok (.iload 5, 2) := dk_21 5 (dk_at dksX0_perform_3 7 rfl rfl)
theorem dX0_perform_75 : decode cX0_perform 75 = .ok (.ireturn, 1) := dk_172 (dk_at dksX0_perform_3 9 rfl rfl)
theorem dX0_perform_76 : decode cX0_perform 76 = .ok (.iload_n 3, 1) := dk_29 (dk_at dksX0_perform_3 10 rfl rfl)
theorem dX0_perform_77 : decode cX0_perform 77 = .ok (.iload 5, 2) := dk_21 5 (dk_at dksX0_perform_3 11 rfl rfl)
theorem dX0_perform_79 : decode cX0_perform 79 = .ok (.iadd, 1) := dk_96 (dk_at dksX0_perform_3 13 rfl rfl)
theorem dX0_perform_80 : decode cX0_perform 80 = .ok (.istore_n 3, 1) := dk_62 (dk_at dksX0_perform_3 14 rfl rfl)
theorem dX0_perform_81 : decode cX0_perform 81 = .ok (.iinc 4 1, 3) := dk_132 4 1 (dk_at dksX0_perform_3 15 rfl rfl)
theorem dX0_perform_84 : decode cX0_perform 84 = .ok (.goto (-44), 3) := dk_167 255 212 (dk_at dksX0_perform_3 18 rfl rfl)
theorem dX0_perform_87 : decode cX0_perform 87 = .ok (.aload_n 0, 1) := dk_42 (dk_at dksX0_perform_3 21 rfl rfl)
theorem dX0_perform_88 : decode cX0_perform 88 = .ok (.aload_n 2, 1) := dk_44 (dk_at dksX0_perform_3 22 rfl rfl)
theorem dX0_perform_89 : decode cX0_perform 89 = .ok (.iload_n 3, 1) := dk_29 (dk_at dksX0_perform_3 23 rfl rfl)
theorem dX0_perform_90 : decode cX0_perform 90 = .ok (.invokevirtual 131, 3) := dk_182 0 131 (dk_at dksX0_perform_4 0 rfl rfl)
theorem dX0_perform_93 : decode cX0_perform 93 = .ok (.ireturn, 1) := dk_172 (dk_at dksX0_perform_4 3 rfl rfl)
abbrev cX0_follow : ByteArray := prog_1_method_23_code
def yX0_follow : MethodName := ⟨RX0, "follow", "(LBlanketKeys$State;LBlanketKeys$Move;)I"⟩
def dkwX0_follow_3 : List UInt8 := [182, 0, 135, 61, 28, 3, 184, 0, 180, 172]
abbrev dktX0_follow_3 : List UInt8 := dkwX0_follow_3 ++ []
def dkwX0_follow_2 : List UInt8 := [180, 0, 169, 43, 180, 0, 174, 182, 0, 127, 167, 0, 15, 42, 43, 180, 0, 169, 43, 180, 0, 174]
abbrev dktX0_follow_2 : List UInt8 := dkwX0_follow_2 ++ dktX0_follow_3
def dkwX0_follow_1 : List UInt8 := [182, 0, 138, 96, 61, 132, 3, 1, 167, 255, 238, 28, 172, 43, 180, 0, 177, 153, 0, 18, 42, 43]
abbrev dktX0_follow_1 : List UInt8 := dkwX0_follow_1 ++ dktX0_follow_2
def dkwX0_follow_0 : List UInt8 := [43, 180, 0, 169, 16, 251, 160, 0, 30, 3, 61, 3, 62, 29, 43, 180, 0, 174, 162, 0, 16, 28, 42]
abbrev dktX0_follow_0 : List UInt8 := dkwX0_follow_0 ++ dktX0_follow_1
theorem dksX0_follow_0 : cX0_follow.data.toList.drop 0 = dktX0_follow_0 := by decide +kernel
theorem dksX0_follow_1 : cX0_follow.data.toList.drop 23 = dktX0_follow_1 := dk_seg dksX0_follow_0 23 rfl rfl
theorem dksX0_follow_2 : cX0_follow.data.toList.drop 45 = dktX0_follow_2 := dk_seg dksX0_follow_1 22 rfl rfl
theorem dksX0_follow_3 : cX0_follow.data.toList.drop 67 = dktX0_follow_3 := dk_seg dksX0_follow_2 22 rfl rfl
theorem dX0_follow_0 : decode cX0_follow 0 = .ok (.aload_n 1, 1) := dk_43 (dk_at dksX0_follow_0 0 rfl rfl)
theorem dX0_follow_1 : decode cX0_follow 1 = .ok (.getfield 169, 3) := dk_180 0 169 (dk_at dksX0_follow_0 1 rfl rfl)
theorem dX0_follow_4 : decode cX0_follow 4 = .ok (.bipush (-5), 2) := dk_16 251 (dk_at dksX0_follow_0 4 rfl rfl)
theorem dX0_follow_6 : decode cX0_follow 6 = .ok (.if_icmp .ne 30, 3) := dk_160 0 30 (dk_at dksX0_follow_0 6 rfl rfl)
theorem dX0_follow_9 : decode cX0_follow 9 = .ok (.iconst 0, 1) := dk_3 (dk_at dksX0_follow_0 9 rfl rfl)
theorem dX0_follow_10 : decode cX0_follow 10 = .ok (.istore_n 2, 1) := dk_61 (dk_at dksX0_follow_0 10 rfl rfl)
theorem dX0_follow_11 : decode cX0_follow 11 = .ok (.iconst 0, 1) := dk_3 (dk_at dksX0_follow_0 11 rfl rfl)
theorem dX0_follow_12 : decode cX0_follow 12 = .ok (.istore_n 3, 1) := dk_62 (dk_at dksX0_follow_0 12 rfl rfl)
theorem dX0_follow_13 : decode cX0_follow 13 = .ok (.iload_n 3, 1) := dk_29 (dk_at dksX0_follow_0 13 rfl rfl)
theorem dX0_follow_14 : decode cX0_follow 14 = .ok (.aload_n 1, 1) := dk_43 (dk_at dksX0_follow_0 14 rfl rfl)
theorem dX0_follow_15 : decode cX0_follow 15 = .ok (.getfield 174, 3) := dk_180 0 174 (dk_at dksX0_follow_0 15 rfl rfl)
theorem dX0_follow_18 : decode cX0_follow 18 = .ok (.if_icmp .ge 16, 3) := dk_162 0 16 (dk_at dksX0_follow_0 18 rfl rfl)
theorem dX0_follow_21 : decode cX0_follow 21 = .ok (.iload_n 2, 1) := dk_28 (dk_at dksX0_follow_0 21 rfl rfl)
theorem dX0_follow_22 : decode cX0_follow 22 = .ok (.aload_n 0, 1) := dk_42 (dk_at dksX0_follow_0 22 rfl rfl)
theorem dX0_follow_23 : decode cX0_follow 23 = .ok (.invokevirtual 138, 3) := dk_182 0 138 (dk_at dksX0_follow_1 0 rfl rfl)
theorem dX0_follow_26 : decode cX0_follow 26 = .ok (.iadd, 1) := dk_96 (dk_at dksX0_follow_1 3 rfl rfl)
theorem dX0_follow_27 : decode cX0_follow 27 = .ok (.istore_n 2, 1) := dk_61 (dk_at dksX0_follow_1 4 rfl rfl)
theorem dX0_follow_28 : decode cX0_follow 28 = .ok (.iinc 3 1, 3) := dk_132 3 1 (dk_at dksX0_follow_1 5 rfl rfl)
theorem dX0_follow_31 : decode cX0_follow 31 = .ok (.goto (-18), 3) := dk_167 255 238 (dk_at dksX0_follow_1 8 rfl rfl)
theorem dX0_follow_34 : decode cX0_follow 34 = .ok (.iload_n 2, 1) := dk_28 (dk_at dksX0_follow_1 11 rfl rfl)
theorem dX0_follow_35 : decode cX0_follow 35 = .ok (.ireturn, 1) := dk_172 (dk_at dksX0_follow_1 12 rfl rfl)
theorem dX0_follow_36 : decode cX0_follow 36 = .ok (.aload_n 1, 1) := dk_43 (dk_at dksX0_follow_1 13 rfl rfl)
theorem dX0_follow_37 : decode cX0_follow 37 = .ok (.getfield 177, 3) := dk_180 0 177 (dk_at dksX0_follow_1 14 rfl rfl)
theorem dX0_follow_40 : decode cX0_follow 40 = .ok (.ifCond .eq 18, 3) := dk_153 0 18 (dk_at dksX0_follow_1 17 rfl rfl)
theorem dX0_follow_43 : decode cX0_follow 43 = .ok (.aload_n 0, 1) := dk_42 (dk_at dksX0_follow_1 20 rfl rfl)
theorem dX0_follow_44 : decode cX0_follow 44 = .ok (.aload_n 1, 1) := dk_43 (dk_at dksX0_follow_1 21 rfl rfl)
theorem dX0_follow_45 : decode cX0_follow 45 = .ok (.getfield 169, 3) := dk_180 0 169 (dk_at dksX0_follow_2 0 rfl rfl)
theorem dX0_follow_48 : decode cX0_follow 48 = .ok (.aload_n 1, 1) := dk_43 (dk_at dksX0_follow_2 3 rfl rfl)
theorem dX0_follow_49 : decode cX0_follow 49 = .ok (.getfield 174, 3) := dk_180 0 174 (dk_at dksX0_follow_2 4 rfl rfl)
theorem dX0_follow_52 : decode cX0_follow 52 = .ok (.invokevirtual 127, 3) := dk_182 0 127 (dk_at dksX0_follow_2 7 rfl rfl)
theorem dX0_follow_55 : decode cX0_follow 55 = .ok (.goto 15, 3) := dk_167 0 15 (dk_at dksX0_follow_2 10 rfl rfl)
theorem dX0_follow_58 : decode cX0_follow 58 = .ok (.aload_n 0, 1) := dk_42 (dk_at dksX0_follow_2 13 rfl rfl)
theorem dX0_follow_59 : decode cX0_follow 59 = .ok (.aload_n 1, 1) := dk_43 (dk_at dksX0_follow_2 14 rfl rfl)
theorem dX0_follow_60 : decode cX0_follow 60 = .ok (.getfield 169, 3) := dk_180 0 169 (dk_at dksX0_follow_2 15 rfl rfl)
theorem dX0_follow_63 : decode cX0_follow 63 = .ok (.aload_n 1, 1) := dk_43 (dk_at dksX0_follow_2 18 rfl rfl)
theorem dX0_follow_64 : decode cX0_follow 64 = .ok (.getfield 174, 3) := dk_180 0 174 (dk_at dksX0_follow_2 19 rfl rfl)
theorem dX0_follow_67 : decode cX0_follow 67 = .ok (.invokevirtual 135, 3) := dk_182 0 135 (dk_at dksX0_follow_3 0 rfl rfl)
theorem dX0_follow_70 : decode cX0_follow 70 = .ok (.istore_n 2, 1) := dk_61 (dk_at dksX0_follow_3 3 rfl rfl)
theorem dX0_follow_71 : decode cX0_follow 71 = .ok (.iload_n 2, 1) := dk_28 (dk_at dksX0_follow_3 4 rfl rfl)
theorem dX0_follow_72 : decode cX0_follow 72 = .ok (.iconst 0, 1) := dk_3 (dk_at dksX0_follow_3 5 rfl rfl)
theorem dX0_follow_73 : decode cX0_follow 73 = .ok (.invokestatic 180, 3) := dk_184 0 180 (dk_at dksX0_follow_3 6 rfl rfl)
theorem dX0_follow_76 : decode cX0_follow 76 = .ok (.ireturn, 1) := dk_172 (dk_at dksX0_follow_3 9 rfl rfl)
abbrev cX0_undo : ByteArray := prog_1_method_25_code
def yX0_undo : MethodName := ⟨RX0, "undo", "()I"⟩
def dkwX0_undo_2 : List UInt8 := [185, 0, 39, 1, 0, 172]
abbrev dktX0_undo_2 : List UInt8 := dkwX0_undo_2 ++ []
def dkwX0_undo_1 : List UInt8 := [185, 0, 39, 1, 0, 4, 100, 185, 0, 45, 2, 0, 192, 0, 14, 181, 0, 17, 42, 180, 0, 24]
abbrev dktX0_undo_1 : List UInt8 := dkwX0_undo_1 ++ dktX0_undo_2
def dkwX0_undo_0 : List UInt8 := [42, 180, 0, 24, 185, 0, 203, 1, 0, 153, 0, 6, 16, 251, 172, 42, 42, 180, 0, 24, 42, 180, 0, 24]
abbrev dktX0_undo_0 : List UInt8 := dkwX0_undo_0 ++ dktX0_undo_1
theorem dksX0_undo_0 : cX0_undo.data.toList.drop 0 = dktX0_undo_0 := by decide +kernel
theorem dksX0_undo_1 : cX0_undo.data.toList.drop 24 = dktX0_undo_1 := dk_seg dksX0_undo_0 24 rfl rfl
theorem dksX0_undo_2 : cX0_undo.data.toList.drop 46 = dktX0_undo_2 := dk_seg dksX0_undo_1 22 rfl rfl
theorem dX0_undo_0 : decode cX0_undo 0 = .ok (.aload_n 0, 1) := dk_42 (dk_at dksX0_undo_0 0 rfl rfl)
theorem dX0_undo_1 : decode cX0_undo 1 = .ok (.getfield 24, 3) := dk_180 0 24 (dk_at dksX0_undo_0 1 rfl rfl)
theorem dX0_undo_4 : decode cX0_undo 4 = .ok (.invokeinterface 203 1, 5) := by decide +kernel
theorem dX0_undo_9 : decode cX0_undo 9 = .ok (.ifCond .eq 6, 3) := dk_153 0 6 (dk_at dksX0_undo_0 9 rfl rfl)
theorem dX0_undo_12 : decode cX0_undo 12 = .ok (.bipush (-5), 2) := dk_16 251 (dk_at dksX0_undo_0 12 rfl rfl)
theorem dX0_undo_14 : decode cX0_undo 14 = .ok (.ireturn, 1) := dk_172 (dk_at dksX0_undo_0 14 rfl rfl)
theorem dX0_undo_15 : decode cX0_undo 15 = .ok (.aload_n 0, 1) := dk_42 (dk_at dksX0_undo_0 15 rfl rfl)
theorem dX0_undo_16 : decode cX0_undo 16 = .ok (.aload_n 0, 1) := dk_42 (dk_at dksX0_undo_0 16 rfl rfl)
theorem dX0_undo_17 : decode cX0_undo 17 = .ok (.getfield 24, 3) := dk_180 0 24 (dk_at dksX0_undo_0 17 rfl rfl)
theorem dX0_undo_20 : decode cX0_undo 20 = .ok (.aload_n 0, 1) := dk_42 (dk_at dksX0_undo_0 20 rfl rfl)
theorem dX0_undo_21 : decode cX0_undo 21 = .ok (.getfield 24, 3) := dk_180 0 24 (dk_at dksX0_undo_0 21 rfl rfl)
theorem dX0_undo_24 : decode cX0_undo 24 = .ok (.invokeinterface 39 1, 5) := by decide +kernel
theorem dX0_undo_29 : decode cX0_undo 29 = .ok (.iconst 1, 1) := dk_4 (dk_at dksX0_undo_1 5 rfl rfl)
theorem dX0_undo_30 : decode cX0_undo 30 = .ok (.isub, 1) := dk_100 (dk_at dksX0_undo_1 6 rfl rfl)
theorem dX0_undo_31 : decode cX0_undo 31 = .ok (.invokeinterface 45 2, 5) := by decide +kernel
theorem dX0_undo_36 : decode cX0_undo 36 = .ok (.checkcast 14, 3) := dk_192 0 14 (dk_at dksX0_undo_1 12 rfl rfl)
theorem dX0_undo_39 : decode cX0_undo 39 = .ok (.putfield 17, 3) := dk_181 0 17 (dk_at dksX0_undo_1 15 rfl rfl)
theorem dX0_undo_42 : decode cX0_undo 42 = .ok (.aload_n 0, 1) := dk_42 (dk_at dksX0_undo_1 18 rfl rfl)
theorem dX0_undo_43 : decode cX0_undo 43 = .ok (.getfield 24, 3) := dk_180 0 24 (dk_at dksX0_undo_1 19 rfl rfl)
theorem dX0_undo_46 : decode cX0_undo 46 = .ok (.invokeinterface 39 1, 5) := by decide +kernel
theorem dX0_undo_51 : decode cX0_undo 51 = .ok (.ireturn, 1) := dk_172 (dk_at dksX0_undo_2 5 rfl rfl)
abbrev cX0_keep : ByteArray := prog_1_method_26_code
def yX0_keep : MethodName := ⟨RX0, "keep", "()I"⟩
def dkwX0_keep_0 : List UInt8 := [42, 42, 180, 0, 17, 182, 0, 75, 181, 0, 206, 42, 180, 0, 17, 180, 0, 209, 172]
abbrev dktX0_keep_0 : List UInt8 := dkwX0_keep_0 ++ []
theorem dksX0_keep_0 : cX0_keep.data.toList.drop 0 = dktX0_keep_0 := by decide +kernel
theorem dX0_keep_0 : decode cX0_keep 0 = .ok (.aload_n 0, 1) := dk_42 (dk_at dksX0_keep_0 0 rfl rfl)
theorem dX0_keep_1 : decode cX0_keep 1 = .ok (.aload_n 0, 1) := dk_42 (dk_at dksX0_keep_0 1 rfl rfl)
theorem dX0_keep_2 : decode cX0_keep 2 = .ok (.getfield 17, 3) := dk_180 0 17 (dk_at dksX0_keep_0 2 rfl rfl)
theorem dX0_keep_5 : decode cX0_keep 5 = .ok (.invokevirtual 75, 3) := dk_182 0 75 (dk_at dksX0_keep_0 5 rfl rfl)
theorem dX0_keep_8 : decode cX0_keep 8 = .ok (.putfield 206, 3) := dk_181 0 206 (dk_at dksX0_keep_0 8 rfl rfl)
theorem dX0_keep_11 : decode cX0_keep 11 = .ok (.aload_n 0, 1) := dk_42 (dk_at dksX0_keep_0 11 rfl rfl)
theorem dX0_keep_12 : decode cX0_keep 12 = .ok (.getfield 17, 3) := dk_180 0 17 (dk_at dksX0_keep_0 12 rfl rfl)
theorem dX0_keep_15 : decode cX0_keep 15 = .ok (.getfield 209, 3) := dk_180 0 209 (dk_at dksX0_keep_0 15 rfl rfl)
theorem dX0_keep_18 : decode cX0_keep 18 = .ok (.ireturn, 1) := dk_172 (dk_at dksX0_keep_0 18 rfl rfl)
abbrev cX0_restore : ByteArray := prog_1_method_27_code
def yX0_restore : MethodName := ⟨RX0, "restore", "()I"⟩
def dkwX0_restore_1 : List UInt8 := [182, 0, 75, 181, 0, 17, 42, 180, 0, 17, 180, 0, 209, 172]
abbrev dktX0_restore_1 : List UInt8 := dkwX0_restore_1 ++ []
def dkwX0_restore_0 : List UInt8 := [42, 180, 0, 206, 199, 0, 6, 16, 251, 172, 42, 42, 180, 0, 17, 182, 0, 79, 42, 42, 180, 0, 206]
abbrev dktX0_restore_0 : List UInt8 := dkwX0_restore_0 ++ dktX0_restore_1
theorem dksX0_restore_0 : cX0_restore.data.toList.drop 0 = dktX0_restore_0 := by decide +kernel
theorem dksX0_restore_1 : cX0_restore.data.toList.drop 23 = dktX0_restore_1 := dk_seg dksX0_restore_0 23 rfl rfl
theorem dX0_restore_0 : decode cX0_restore 0 = .ok (.aload_n 0, 1) := dk_42 (dk_at dksX0_restore_0 0 rfl rfl)
theorem dX0_restore_1 : decode cX0_restore 1 = .ok (.getfield 206, 3) := dk_180 0 206 (dk_at dksX0_restore_0 1 rfl rfl)
theorem dX0_restore_4 : decode cX0_restore 4 = .ok (.ifnonnull 6, 3) := dk_199 0 6 (dk_at dksX0_restore_0 4 rfl rfl)
theorem dX0_restore_7 : decode cX0_restore 7 = .ok (.bipush (-5), 2) := dk_16 251 (dk_at dksX0_restore_0 7 rfl rfl)
theorem dX0_restore_9 : decode cX0_restore 9 = .ok (.ireturn, 1) := dk_172 (dk_at dksX0_restore_0 9 rfl rfl)
theorem dX0_restore_10 : decode cX0_restore 10 = .ok (.aload_n 0, 1) := dk_42 (dk_at dksX0_restore_0 10 rfl rfl)
theorem dX0_restore_11 : decode cX0_restore 11 = .ok (.aload_n 0, 1) := dk_42 (dk_at dksX0_restore_0 11 rfl rfl)
theorem dX0_restore_12 : decode cX0_restore 12 = .ok (.getfield 17, 3) := dk_180 0 17 (dk_at dksX0_restore_0 12 rfl rfl)
theorem dX0_restore_15 : decode cX0_restore 15 = .ok (.invokevirtual 79, 3) := dk_182 0 79 (dk_at dksX0_restore_0 15 rfl rfl)
theorem dX0_restore_18 : decode cX0_restore 18 = .ok (.aload_n 0, 1) := dk_42 (dk_at dksX0_restore_0 18 rfl rfl)
theorem dX0_restore_19 : decode cX0_restore 19 = .ok (.aload_n 0, 1) := dk_42 (dk_at dksX0_restore_0 19 rfl rfl)
theorem dX0_restore_20 : decode cX0_restore 20 = .ok (.getfield 206, 3) := dk_180 0 206 (dk_at dksX0_restore_0 20 rfl rfl)
theorem dX0_restore_23 : decode cX0_restore 23 = .ok (.invokevirtual 75, 3) := dk_182 0 75 (dk_at dksX0_restore_1 0 rfl rfl)
theorem dX0_restore_26 : decode cX0_restore 26 = .ok (.putfield 17, 3) := dk_181 0 17 (dk_at dksX0_restore_1 3 rfl rfl)
theorem dX0_restore_29 : decode cX0_restore 29 = .ok (.aload_n 0, 1) := dk_42 (dk_at dksX0_restore_1 6 rfl rfl)
theorem dX0_restore_30 : decode cX0_restore 30 = .ok (.getfield 17, 3) := dk_180 0 17 (dk_at dksX0_restore_1 7 rfl rfl)
theorem dX0_restore_33 : decode cX0_restore 33 = .ok (.getfield 209, 3) := dk_180 0 209 (dk_at dksX0_restore_1 10 rfl rfl)
theorem dX0_restore_36 : decode cX0_restore 36 = .ok (.ireturn, 1) := dk_172 (dk_at dksX0_restore_1 13 rfl rfl)
abbrev cX0_key : ByteArray := prog_1_method_28_code
def yX0_key : MethodName := ⟨RX0, "key", "(II)I"⟩
def dkwX0_key_5 : List UInt8 := [180, 0, 17, 27, 182, 0, 221, 153, 0, 7, 4, 167, 0, 4, 3, 172, 16, 254, 172]
abbrev dktX0_key_5 : List UInt8 := dkwX0_key_5 ++ []
def dkwX0_key_4 : List UInt8 := [180, 0, 218, 153, 0, 7, 4, 167, 0, 4, 3, 172, 45, 180, 0, 91, 172, 45, 180, 0, 95, 172, 42]
abbrev dktX0_key_4 : List UInt8 := dkwX0_key_4 ++ dktX0_key_5
def dkwX0_key_3 : List UInt8 := [45, 180, 0, 212, 172, 45, 182, 0, 65, 153, 0, 7, 4, 167, 0, 4, 3, 172, 45, 180, 0, 215, 172, 45]
abbrev dktX0_key_3 : List UInt8 := dkwX0_key_3 ++ dktX0_key_4
def dkwX0_key_2 : List UInt8 := [170, 0, 0, 0, 0, 0, 0, 107, 0, 0, 0, 0, 0, 0, 0, 6, 0, 0, 0, 44, 0, 0, 0, 49, 0, 0, 0, 62, 0, 0, 0, 67, 0, 0, 0, 80, 0, 0, 0, 85, 0, 0, 0, 90]
abbrev dktX0_key_2 : List UInt8 := dkwX0_key_2 ++ dktX0_key_3
def dkwX0_key_1 : List UInt8 := [192, 0, 59, 78, 28]
abbrev dktX0_key_1 : List UInt8 := dkwX0_key_1 ++ dktX0_key_2
def dkwX0_key_0 : List UInt8 := [42, 27, 182, 0, 83, 154, 0, 5, 2, 172, 42, 180, 0, 17, 180, 0, 53, 27, 185, 0, 56, 2, 0]
abbrev dktX0_key_0 : List UInt8 := dkwX0_key_0 ++ dktX0_key_1
theorem dksX0_key_0 : cX0_key.data.toList.drop 0 = dktX0_key_0 := by decide +kernel
theorem dksX0_key_1 : cX0_key.data.toList.drop 23 = dktX0_key_1 := dk_seg dksX0_key_0 23 rfl rfl
theorem dksX0_key_2 : cX0_key.data.toList.drop 28 = dktX0_key_2 := dk_seg dksX0_key_1 5 rfl rfl
theorem dksX0_key_3 : cX0_key.data.toList.drop 72 = dktX0_key_3 := dk_seg dksX0_key_2 44 rfl rfl
theorem dksX0_key_4 : cX0_key.data.toList.drop 96 = dktX0_key_4 := dk_seg dksX0_key_3 24 rfl rfl
theorem dksX0_key_5 : cX0_key.data.toList.drop 119 = dktX0_key_5 := dk_seg dksX0_key_4 23 rfl rfl
theorem dX0_key_0 : decode cX0_key 0 = .ok (.aload_n 0, 1) := dk_42 (dk_at dksX0_key_0 0 rfl rfl)
theorem dX0_key_1 : decode cX0_key 1 = .ok (.iload_n 1, 1) := dk_27 (dk_at dksX0_key_0 1 rfl rfl)
theorem dX0_key_2 : decode cX0_key 2 = .ok (.invokevirtual 83, 3) := dk_182 0 83 (dk_at dksX0_key_0 2 rfl rfl)
theorem dX0_key_5 : decode cX0_key 5 = .ok (.ifCond .ne 5, 3) := dk_154 0 5 (dk_at dksX0_key_0 5 rfl rfl)
theorem dX0_key_8 : decode cX0_key 8 = .ok (.iconst (-1), 1) := dk_2 (dk_at dksX0_key_0 8 rfl rfl)
theorem dX0_key_9 : decode cX0_key 9 = .ok (.ireturn, 1) := dk_172 (dk_at dksX0_key_0 9 rfl rfl)
theorem dX0_key_10 : decode cX0_key 10 = .ok (.aload_n 0, 1) := dk_42 (dk_at dksX0_key_0 10 rfl rfl)
theorem dX0_key_11 : decode cX0_key 11 = .ok (.getfield 17, 3) := dk_180 0 17 (dk_at dksX0_key_0 11 rfl rfl)
theorem dX0_key_14 : decode cX0_key 14 = .ok (.getfield 53, 3) := dk_180 0 53 (dk_at dksX0_key_0 14 rfl rfl)
theorem dX0_key_17 : decode cX0_key 17 = .ok (.iload_n 1, 1) := dk_27 (dk_at dksX0_key_0 17 rfl rfl)
theorem dX0_key_18 : decode cX0_key 18 = .ok (.invokeinterface 56 2, 5) := by decide +kernel
theorem dX0_key_23 : decode cX0_key 23 = .ok (.checkcast 59, 3) := dk_192 0 59 (dk_at dksX0_key_1 0 rfl rfl)
theorem dX0_key_26 : decode cX0_key 26 = .ok (.astore_n 3, 1) := dk_78 (dk_at dksX0_key_1 3 rfl rfl)
theorem dX0_key_27 : decode cX0_key 27 = .ok (.iload_n 2, 1) := dk_28 (dk_at dksX0_key_1 4 rfl rfl)
theorem dX0_key_28 : decode cX0_key 28 = .ok (.tableswitch 107 0 6 #[44, 49, 62, 67, 80, 85, 90], 44) := by decide +kernel
theorem dX0_key_72 : decode cX0_key 72 = .ok (.aload_n 3, 1) := dk_45 (dk_at dksX0_key_3 0 rfl rfl)
theorem dX0_key_73 : decode cX0_key 73 = .ok (.getfield 212, 3) := dk_180 0 212 (dk_at dksX0_key_3 1 rfl rfl)
theorem dX0_key_76 : decode cX0_key 76 = .ok (.ireturn, 1) := dk_172 (dk_at dksX0_key_3 4 rfl rfl)
theorem dX0_key_77 : decode cX0_key 77 = .ok (.aload_n 3, 1) := dk_45 (dk_at dksX0_key_3 5 rfl rfl)
theorem dX0_key_78 : decode cX0_key 78 = .ok (.invokevirtual 65, 3) := dk_182 0 65 (dk_at dksX0_key_3 6 rfl rfl)
theorem dX0_key_81 : decode cX0_key 81 = .ok (.ifCond .eq 7, 3) := dk_153 0 7 (dk_at dksX0_key_3 9 rfl rfl)
theorem dX0_key_84 : decode cX0_key 84 = .ok (.iconst 1, 1) := dk_4 (dk_at dksX0_key_3 12 rfl rfl)
theorem dX0_key_85 : decode cX0_key 85 = .ok (.goto 4, 3) := dk_167 0 4 (dk_at dksX0_key_3 13 rfl rfl)
theorem dX0_key_88 : decode cX0_key 88 = .ok (.iconst 0, 1) := dk_3 (dk_at dksX0_key_3 16 rfl rfl)
theorem dX0_key_89 : decode cX0_key 89 = .ok (.ireturn, 1) := dk_172 (dk_at dksX0_key_3 17 rfl rfl)
theorem dX0_key_90 : decode cX0_key 90 = .ok (.aload_n 3, 1) := dk_45 (dk_at dksX0_key_3 18 rfl rfl)
theorem dX0_key_91 : decode cX0_key 91 = .ok (.getfield 215, 3) := dk_180 0 215 (dk_at dksX0_key_3 19 rfl rfl)
theorem dX0_key_94 : decode cX0_key 94 = .ok (.ireturn, 1) := dk_172 (dk_at dksX0_key_3 22 rfl rfl)
theorem dX0_key_95 : decode cX0_key 95 = .ok (.aload_n 3, 1) := dk_45 (dk_at dksX0_key_3 23 rfl rfl)
theorem dX0_key_96 : decode cX0_key 96 = .ok (.getfield 218, 3) := dk_180 0 218 (dk_at dksX0_key_4 0 rfl rfl)
theorem dX0_key_99 : decode cX0_key 99 = .ok (.ifCond .eq 7, 3) := dk_153 0 7 (dk_at dksX0_key_4 3 rfl rfl)
theorem dX0_key_102 : decode cX0_key 102 = .ok (.iconst 1, 1) := dk_4 (dk_at dksX0_key_4 6 rfl rfl)
theorem dX0_key_103 : decode cX0_key 103 = .ok (.goto 4, 3) := dk_167 0 4 (dk_at dksX0_key_4 7 rfl rfl)
theorem dX0_key_106 : decode cX0_key 106 = .ok (.iconst 0, 1) := dk_3 (dk_at dksX0_key_4 10 rfl rfl)
theorem dX0_key_107 : decode cX0_key 107 = .ok (.ireturn, 1) := dk_172 (dk_at dksX0_key_4 11 rfl rfl)
theorem dX0_key_108 : decode cX0_key 108 = .ok (.aload_n 3, 1) := dk_45 (dk_at dksX0_key_4 12 rfl rfl)
theorem dX0_key_109 : decode cX0_key 109 = .ok (.getfield 91, 3) := dk_180 0 91 (dk_at dksX0_key_4 13 rfl rfl)
theorem dX0_key_112 : decode cX0_key 112 = .ok (.ireturn, 1) := dk_172 (dk_at dksX0_key_4 16 rfl rfl)
theorem dX0_key_113 : decode cX0_key 113 = .ok (.aload_n 3, 1) := dk_45 (dk_at dksX0_key_4 17 rfl rfl)
theorem dX0_key_114 : decode cX0_key 114 = .ok (.getfield 95, 3) := dk_180 0 95 (dk_at dksX0_key_4 18 rfl rfl)
theorem dX0_key_117 : decode cX0_key 117 = .ok (.ireturn, 1) := dk_172 (dk_at dksX0_key_4 21 rfl rfl)
theorem dX0_key_118 : decode cX0_key 118 = .ok (.aload_n 0, 1) := dk_42 (dk_at dksX0_key_4 22 rfl rfl)
theorem dX0_key_119 : decode cX0_key 119 = .ok (.getfield 17, 3) := dk_180 0 17 (dk_at dksX0_key_5 0 rfl rfl)
theorem dX0_key_122 : decode cX0_key 122 = .ok (.iload_n 1, 1) := dk_27 (dk_at dksX0_key_5 3 rfl rfl)
theorem dX0_key_123 : decode cX0_key 123 = .ok (.invokevirtual 221, 3) := dk_182 0 221 (dk_at dksX0_key_5 4 rfl rfl)
theorem dX0_key_126 : decode cX0_key 126 = .ok (.ifCond .eq 7, 3) := dk_153 0 7 (dk_at dksX0_key_5 7 rfl rfl)
theorem dX0_key_129 : decode cX0_key 129 = .ok (.iconst 1, 1) := dk_4 (dk_at dksX0_key_5 10 rfl rfl)
theorem dX0_key_130 : decode cX0_key 130 = .ok (.goto 4, 3) := dk_167 0 4 (dk_at dksX0_key_5 11 rfl rfl)
theorem dX0_key_133 : decode cX0_key 133 = .ok (.iconst 0, 1) := dk_3 (dk_at dksX0_key_5 14 rfl rfl)
theorem dX0_key_134 : decode cX0_key 134 = .ok (.ireturn, 1) := dk_172 (dk_at dksX0_key_5 15 rfl rfl)
theorem dX0_key_135 : decode cX0_key 135 = .ok (.bipush (-2), 2) := dk_16 254 (dk_at dksX0_key_5 16 rfl rfl)
theorem dX0_key_137 : decode cX0_key 137 = .ok (.ireturn, 1) := dk_172 (dk_at dksX0_key_5 18 rfl rfl)
abbrev cX0_typist : ByteArray := prog_1_method_29_code
def yX0_typist : MethodName := ⟨RX0, "typist", "(II)I"⟩
def dkwX0_typist_6 : List UInt8 := [172, 16, 254, 172]
abbrev dktX0_typist_6 : List UInt8 := dkwX0_typist_6 ++ []
def dkwX0_typist_5 : List UInt8 := [46, 172, 42, 180, 0, 17, 180, 0, 237, 27, 46, 172, 42, 180, 0, 17, 180, 0, 240, 27, 50, 180, 0, 244]
abbrev dktX0_typist_5 : List UInt8 := dkwX0_typist_5 ++ dktX0_typist_6
def dkwX0_typist_4 : List UInt8 := [4, 167, 0, 4, 3, 172, 42, 180, 0, 17, 180, 0, 230, 27, 46, 172, 42, 180, 0, 17, 180, 0, 234, 27]
abbrev dktX0_typist_4 : List UInt8 := dkwX0_typist_4 ++ dktX0_typist_5
def dkwX0_typist_3 : List UInt8 := [182, 0, 227, 153, 0, 7, 4, 167, 0, 4, 3, 172, 42, 180, 0, 17, 180, 0, 104, 27, 51, 153, 0, 7]
abbrev dktX0_typist_3 : List UInt8 := dkwX0_typist_3 ++ dktX0_typist_4
def dkwX0_typist_2 : List UInt8 := [42, 180, 0, 17, 27, 182, 0, 224, 172, 42, 180, 0, 17, 27, 182, 0, 101, 172, 42, 180, 0, 17, 27]
abbrev dktX0_typist_2 : List UInt8 := dkwX0_typist_2 ++ dktX0_typist_3
def dkwX0_typist_1 : List UInt8 := [170, 0, 0, 0, 0, 142, 0, 0, 0, 0, 0, 0, 0, 7, 0, 0, 0, 46, 0, 0, 0, 55, 0, 0, 0, 64, 0, 0, 0, 81, 0, 0, 0, 99, 0, 0, 0, 109, 0, 0, 0, 119, 0, 0, 0, 129]
abbrev dktX0_typist_1 : List UInt8 := dkwX0_typist_1 ++ dktX0_typist_2
def dkwX0_typist_0 : List UInt8 := [27, 184, 0, 98, 154, 0, 5, 2, 172, 28]
abbrev dktX0_typist_0 : List UInt8 := dkwX0_typist_0 ++ dktX0_typist_1
theorem dksX0_typist_0 : cX0_typist.data.toList.drop 0 = dktX0_typist_0 := by decide +kernel
theorem dksX0_typist_1 : cX0_typist.data.toList.drop 10 = dktX0_typist_1 := dk_seg dksX0_typist_0 10 rfl rfl
theorem dksX0_typist_2 : cX0_typist.data.toList.drop 56 = dktX0_typist_2 := dk_seg dksX0_typist_1 46 rfl rfl
theorem dksX0_typist_3 : cX0_typist.data.toList.drop 79 = dktX0_typist_3 := dk_seg dksX0_typist_2 23 rfl rfl
theorem dksX0_typist_4 : cX0_typist.data.toList.drop 103 = dktX0_typist_4 := dk_seg dksX0_typist_3 24 rfl rfl
theorem dksX0_typist_5 : cX0_typist.data.toList.drop 127 = dktX0_typist_5 := dk_seg dksX0_typist_4 24 rfl rfl
theorem dksX0_typist_6 : cX0_typist.data.toList.drop 151 = dktX0_typist_6 := dk_seg dksX0_typist_5 24 rfl rfl
theorem dX0_typist_0 : decode cX0_typist 0 = .ok (.iload_n 1, 1) := dk_27 (dk_at dksX0_typist_0 0 rfl rfl)
theorem dX0_typist_1 : decode cX0_typist 1 = .ok (.invokestatic 98, 3) := dk_184 0 98 (dk_at dksX0_typist_0 1 rfl rfl)
theorem dX0_typist_4 : decode cX0_typist 4 = .ok (.ifCond .ne 5, 3) := dk_154 0 5 (dk_at dksX0_typist_0 4 rfl rfl)
theorem dX0_typist_7 : decode cX0_typist 7 = .ok (.iconst (-1), 1) := dk_2 (dk_at dksX0_typist_0 7 rfl rfl)
theorem dX0_typist_8 : decode cX0_typist 8 = .ok (.ireturn, 1) := dk_172 (dk_at dksX0_typist_0 8 rfl rfl)
theorem dX0_typist_9 : decode cX0_typist 9 = .ok (.iload_n 2, 1) := dk_28 (dk_at dksX0_typist_0 9 rfl rfl)
theorem dX0_typist_10 : decode cX0_typist 10 = .ok (.tableswitch 142 0 7 #[46, 55, 64, 81, 99, 109, 119, 129], 46) := by decide +kernel
theorem dX0_typist_56 : decode cX0_typist 56 = .ok (.aload_n 0, 1) := dk_42 (dk_at dksX0_typist_2 0 rfl rfl)
theorem dX0_typist_57 : decode cX0_typist 57 = .ok (.getfield 17, 3) := dk_180 0 17 (dk_at dksX0_typist_2 1 rfl rfl)
theorem dX0_typist_60 : decode cX0_typist 60 = .ok (.iload_n 1, 1) := dk_27 (dk_at dksX0_typist_2 4 rfl rfl)
theorem dX0_typist_61 : decode cX0_typist 61 = .ok (.invokevirtual 224, 3) := dk_182 0 224 (dk_at dksX0_typist_2 5 rfl rfl)
theorem dX0_typist_64 : decode cX0_typist 64 = .ok (.ireturn, 1) := dk_172 (dk_at dksX0_typist_2 8 rfl rfl)
theorem dX0_typist_65 : decode cX0_typist 65 = .ok (.aload_n 0, 1) := dk_42 (dk_at dksX0_typist_2 9 rfl rfl)
theorem dX0_typist_66 : decode cX0_typist 66 = .ok (.getfield 17, 3) := dk_180 0 17 (dk_at dksX0_typist_2 10 rfl rfl)
theorem dX0_typist_69 : decode cX0_typist 69 = .ok (.iload_n 1, 1) := dk_27 (dk_at dksX0_typist_2 13 rfl rfl)
theorem dX0_typist_70 : decode cX0_typist 70 = .ok (.invokevirtual 101, 3) := dk_182 0 101 (dk_at dksX0_typist_2 14 rfl rfl)
theorem dX0_typist_73 : decode cX0_typist 73 = .ok (.ireturn, 1) := dk_172 (dk_at dksX0_typist_2 17 rfl rfl)
theorem dX0_typist_74 : decode cX0_typist 74 = .ok (.aload_n 0, 1) := dk_42 (dk_at dksX0_typist_2 18 rfl rfl)
theorem dX0_typist_75 : decode cX0_typist 75 = .ok (.getfield 17, 3) := dk_180 0 17 (dk_at dksX0_typist_2 19 rfl rfl)
theorem dX0_typist_78 : decode cX0_typist 78 = .ok (.iload_n 1, 1) := dk_27 (dk_at dksX0_typist_2 22 rfl rfl)
theorem dX0_typist_79 : decode cX0_typist 79 = .ok (.invokevirtual 227, 3) := dk_182 0 227 (dk_at dksX0_typist_3 0 rfl rfl)
theorem dX0_typist_82 : decode cX0_typist 82 = .ok (.ifCond .eq 7, 3) := dk_153 0 7 (dk_at dksX0_typist_3 3 rfl rfl)
theorem dX0_typist_85 : decode cX0_typist 85 = .ok (.iconst 1, 1) := dk_4 (dk_at dksX0_typist_3 6 rfl rfl)
theorem dX0_typist_86 : decode cX0_typist 86 = .ok (.goto 4, 3) := dk_167 0 4 (dk_at dksX0_typist_3 7 rfl rfl)
theorem dX0_typist_89 : decode cX0_typist 89 = .ok (.iconst 0, 1) := dk_3 (dk_at dksX0_typist_3 10 rfl rfl)
theorem dX0_typist_90 : decode cX0_typist 90 = .ok (.ireturn, 1) := dk_172 (dk_at dksX0_typist_3 11 rfl rfl)
theorem dX0_typist_91 : decode cX0_typist 91 = .ok (.aload_n 0, 1) := dk_42 (dk_at dksX0_typist_3 12 rfl rfl)
theorem dX0_typist_92 : decode cX0_typist 92 = .ok (.getfield 17, 3) := dk_180 0 17 (dk_at dksX0_typist_3 13 rfl rfl)
theorem dX0_typist_95 : decode cX0_typist 95 = .ok (.getfield 104, 3) := dk_180 0 104 (dk_at dksX0_typist_3 16 rfl rfl)
theorem dX0_typist_98 : decode cX0_typist 98 = .ok (.iload_n 1, 1) := dk_27 (dk_at dksX0_typist_3 19 rfl rfl)
theorem dX0_typist_99 : decode cX0_typist 99 = .ok (.baload, 1) := dk_51 (dk_at dksX0_typist_3 20 rfl rfl)
theorem dX0_typist_100 : decode cX0_typist 100 = .ok (.ifCond .eq 7, 3) := dk_153 0 7 (dk_at dksX0_typist_3 21 rfl rfl)
theorem dX0_typist_103 : decode cX0_typist 103 = .ok (.iconst 1, 1) := dk_4 (dk_at dksX0_typist_4 0 rfl rfl)
theorem dX0_typist_104 : decode cX0_typist 104 = .ok (.goto 4, 3) := dk_167 0 4 (dk_at dksX0_typist_4 1 rfl rfl)
theorem dX0_typist_107 : decode cX0_typist 107 = .ok (.iconst 0, 1) := dk_3 (dk_at dksX0_typist_4 4 rfl rfl)
theorem dX0_typist_108 : decode cX0_typist 108 = .ok (.ireturn, 1) := dk_172 (dk_at dksX0_typist_4 5 rfl rfl)
theorem dX0_typist_109 : decode cX0_typist 109 = .ok (.aload_n 0, 1) := dk_42 (dk_at dksX0_typist_4 6 rfl rfl)
theorem dX0_typist_110 : decode cX0_typist 110 = .ok (.getfield 17, 3) := dk_180 0 17 (dk_at dksX0_typist_4 7 rfl rfl)
theorem dX0_typist_113 : decode cX0_typist 113 = .ok (.getfield 230, 3) := dk_180 0 230 (dk_at dksX0_typist_4 10 rfl rfl)
theorem dX0_typist_116 : decode cX0_typist 116 = .ok (.iload_n 1, 1) := dk_27 (dk_at dksX0_typist_4 13 rfl rfl)
theorem dX0_typist_117 : decode cX0_typist 117 = .ok (.iaload, 1) := dk_46 (dk_at dksX0_typist_4 14 rfl rfl)
theorem dX0_typist_118 : decode cX0_typist 118 = .ok (.ireturn, 1) := dk_172 (dk_at dksX0_typist_4 15 rfl rfl)
theorem dX0_typist_119 : decode cX0_typist 119 = .ok (.aload_n 0, 1) := dk_42 (dk_at dksX0_typist_4 16 rfl rfl)
theorem dX0_typist_120 : decode cX0_typist 120 = .ok (.getfield 17, 3) := dk_180 0 17 (dk_at dksX0_typist_4 17 rfl rfl)
theorem dX0_typist_123 : decode cX0_typist 123 = .ok (.getfield 234, 3) := dk_180 0 234 (dk_at dksX0_typist_4 20 rfl rfl)
theorem dX0_typist_126 : decode cX0_typist 126 = .ok (.iload_n 1, 1) := dk_27 (dk_at dksX0_typist_4 23 rfl rfl)
theorem dX0_typist_127 : decode cX0_typist 127 = .ok (.iaload, 1) := dk_46 (dk_at dksX0_typist_5 0 rfl rfl)
theorem dX0_typist_128 : decode cX0_typist 128 = .ok (.ireturn, 1) := dk_172 (dk_at dksX0_typist_5 1 rfl rfl)
theorem dX0_typist_129 : decode cX0_typist 129 = .ok (.aload_n 0, 1) := dk_42 (dk_at dksX0_typist_5 2 rfl rfl)
theorem dX0_typist_130 : decode cX0_typist 130 = .ok (.getfield 17, 3) := dk_180 0 17 (dk_at dksX0_typist_5 3 rfl rfl)
theorem dX0_typist_133 : decode cX0_typist 133 = .ok (.getfield 237, 3) := dk_180 0 237 (dk_at dksX0_typist_5 6 rfl rfl)
theorem dX0_typist_136 : decode cX0_typist 136 = .ok (.iload_n 1, 1) := dk_27 (dk_at dksX0_typist_5 9 rfl rfl)
theorem dX0_typist_137 : decode cX0_typist 137 = .ok (.iaload, 1) := dk_46 (dk_at dksX0_typist_5 10 rfl rfl)
theorem dX0_typist_138 : decode cX0_typist 138 = .ok (.ireturn, 1) := dk_172 (dk_at dksX0_typist_5 11 rfl rfl)
theorem dX0_typist_139 : decode cX0_typist 139 = .ok (.aload_n 0, 1) := dk_42 (dk_at dksX0_typist_5 12 rfl rfl)
theorem dX0_typist_140 : decode cX0_typist 140 = .ok (.getfield 17, 3) := dk_180 0 17 (dk_at dksX0_typist_5 13 rfl rfl)
theorem dX0_typist_143 : decode cX0_typist 143 = .ok (.getfield 240, 3) := dk_180 0 240 (dk_at dksX0_typist_5 16 rfl rfl)
theorem dX0_typist_146 : decode cX0_typist 146 = .ok (.iload_n 1, 1) := dk_27 (dk_at dksX0_typist_5 19 rfl rfl)
theorem dX0_typist_147 : decode cX0_typist 147 = .ok (.aaload, 1) := dk_50 (dk_at dksX0_typist_5 20 rfl rfl)
theorem dX0_typist_148 : decode cX0_typist 148 = .ok (.getfield 244, 3) := dk_180 0 244 (dk_at dksX0_typist_5 21 rfl rfl)
theorem dX0_typist_151 : decode cX0_typist 151 = .ok (.ireturn, 1) := dk_172 (dk_at dksX0_typist_6 0 rfl rfl)
theorem dX0_typist_152 : decode cX0_typist 152 = .ok (.bipush (-2), 2) := dk_16 254 (dk_at dksX0_typist_6 1 rfl rfl)
theorem dX0_typist_154 : decode cX0_typist 154 = .ok (.ireturn, 1) := dk_172 (dk_at dksX0_typist_6 3 rfl rfl)
abbrev cX0_style : ByteArray := prog_1_method_31_code
def yX0_style : MethodName := ⟨RX0, "style", "(II)F"⟩
def dkwX0_style_1 : List UInt8 := [167, 0, 6, 184, 1, 4, 174]
abbrev dktX0_style_1 : List UInt8 := dkwX0_style_1 ++ []
def dkwX0_style_0 : List UInt8 := [27, 184, 0, 98, 153, 0, 21, 28, 3, 4, 184, 0, 3, 153, 0, 12, 42, 27, 28, 182, 1, 0]
abbrev dktX0_style_0 : List UInt8 := dkwX0_style_0 ++ dktX0_style_1
theorem dksX0_style_0 : cX0_style.data.toList.drop 0 = dktX0_style_0 := by decide +kernel
theorem dksX0_style_1 : cX0_style.data.toList.drop 22 = dktX0_style_1 := dk_seg dksX0_style_0 22 rfl rfl
theorem dX0_style_0 : decode cX0_style 0 = .ok (.iload_n 1, 1) := dk_27 (dk_at dksX0_style_0 0 rfl rfl)
theorem dX0_style_1 : decode cX0_style 1 = .ok (.invokestatic 98, 3) := dk_184 0 98 (dk_at dksX0_style_0 1 rfl rfl)
theorem dX0_style_4 : decode cX0_style 4 = .ok (.ifCond .eq 21, 3) := dk_153 0 21 (dk_at dksX0_style_0 4 rfl rfl)
theorem dX0_style_7 : decode cX0_style 7 = .ok (.iload_n 2, 1) := dk_28 (dk_at dksX0_style_0 7 rfl rfl)
theorem dX0_style_8 : decode cX0_style 8 = .ok (.iconst 0, 1) := dk_3 (dk_at dksX0_style_0 8 rfl rfl)
theorem dX0_style_9 : decode cX0_style 9 = .ok (.iconst 1, 1) := dk_4 (dk_at dksX0_style_0 9 rfl rfl)
theorem dX0_style_10 : decode cX0_style 10 = .ok (.invokestatic 3, 3) := dk_184 0 3 (dk_at dksX0_style_0 10 rfl rfl)
theorem dX0_style_13 : decode cX0_style 13 = .ok (.ifCond .eq 12, 3) := dk_153 0 12 (dk_at dksX0_style_0 13 rfl rfl)
theorem dX0_style_16 : decode cX0_style 16 = .ok (.aload_n 0, 1) := dk_42 (dk_at dksX0_style_0 16 rfl rfl)
theorem dX0_style_17 : decode cX0_style 17 = .ok (.iload_n 1, 1) := dk_27 (dk_at dksX0_style_0 17 rfl rfl)
theorem dX0_style_18 : decode cX0_style 18 = .ok (.iload_n 2, 1) := dk_28 (dk_at dksX0_style_0 18 rfl rfl)
theorem dX0_style_19 : decode cX0_style 19 = .ok (.invokevirtual 256, 3) := dk_182 1 0 (dk_at dksX0_style_0 19 rfl rfl)
theorem dX0_style_22 : decode cX0_style 22 = .ok (.goto 6, 3) := dk_167 0 6 (dk_at dksX0_style_1 0 rfl rfl)
theorem dX0_style_25 : decode cX0_style 25 = .ok (.invokestatic 260, 3) := dk_184 1 4 (dk_at dksX0_style_1 3 rfl rfl)
theorem dX0_style_28 : decode cX0_style 28 = .ok (.freturn, 1) := dk_174 (dk_at dksX0_style_1 6 rfl rfl)
abbrev cX0_mean : ByteArray := prog_1_method_30_code
def yX0_mean : MethodName := ⟨RX0, "mean", "(II)F"⟩
def dkwX0_mean_1 : List UInt8 := [180, 0, 240, 27, 50, 180, 0, 253, 174]
abbrev dktX0_mean_1 : List UInt8 := dkwX0_mean_1 ++ []
def dkwX0_mean_0 : List UInt8 := [28, 154, 0, 18, 42, 180, 0, 17, 180, 0, 240, 27, 50, 180, 0, 249, 167, 0, 15, 42, 180, 0, 17]
abbrev dktX0_mean_0 : List UInt8 := dkwX0_mean_0 ++ dktX0_mean_1
theorem dksX0_mean_0 : cX0_mean.data.toList.drop 0 = dktX0_mean_0 := by decide +kernel
theorem dksX0_mean_1 : cX0_mean.data.toList.drop 23 = dktX0_mean_1 := dk_seg dksX0_mean_0 23 rfl rfl
theorem dX0_mean_0 : decode cX0_mean 0 = .ok (.iload_n 2, 1) := dk_28 (dk_at dksX0_mean_0 0 rfl rfl)
theorem dX0_mean_1 : decode cX0_mean 1 = .ok (.ifCond .ne 18, 3) := dk_154 0 18 (dk_at dksX0_mean_0 1 rfl rfl)
theorem dX0_mean_4 : decode cX0_mean 4 = .ok (.aload_n 0, 1) := dk_42 (dk_at dksX0_mean_0 4 rfl rfl)
theorem dX0_mean_5 : decode cX0_mean 5 = .ok (.getfield 17, 3) := dk_180 0 17 (dk_at dksX0_mean_0 5 rfl rfl)
theorem dX0_mean_8 : decode cX0_mean 8 = .ok (.getfield 240, 3) := dk_180 0 240 (dk_at dksX0_mean_0 8 rfl rfl)
theorem dX0_mean_11 : decode cX0_mean 11 = .ok (.iload_n 1, 1) := dk_27 (dk_at dksX0_mean_0 11 rfl rfl)
theorem dX0_mean_12 : decode cX0_mean 12 = .ok (.aaload, 1) := dk_50 (dk_at dksX0_mean_0 12 rfl rfl)
theorem dX0_mean_13 : decode cX0_mean 13 = .ok (.getfield 249, 3) := dk_180 0 249 (dk_at dksX0_mean_0 13 rfl rfl)
theorem dX0_mean_16 : decode cX0_mean 16 = .ok (.goto 15, 3) := dk_167 0 15 (dk_at dksX0_mean_0 16 rfl rfl)
theorem dX0_mean_19 : decode cX0_mean 19 = .ok (.aload_n 0, 1) := dk_42 (dk_at dksX0_mean_0 19 rfl rfl)
theorem dX0_mean_20 : decode cX0_mean 20 = .ok (.getfield 17, 3) := dk_180 0 17 (dk_at dksX0_mean_0 20 rfl rfl)
theorem dX0_mean_23 : decode cX0_mean 23 = .ok (.getfield 240, 3) := dk_180 0 240 (dk_at dksX0_mean_1 0 rfl rfl)
theorem dX0_mean_26 : decode cX0_mean 26 = .ok (.iload_n 1, 1) := dk_27 (dk_at dksX0_mean_1 3 rfl rfl)
theorem dX0_mean_27 : decode cX0_mean 27 = .ok (.aaload, 1) := dk_50 (dk_at dksX0_mean_1 4 rfl rfl)
theorem dX0_mean_28 : decode cX0_mean 28 = .ok (.getfield 253, 3) := dk_180 0 253 (dk_at dksX0_mean_1 5 rfl rfl)
theorem dX0_mean_31 : decode cX0_mean 31 = .ok (.freturn, 1) := dk_174 (dk_at dksX0_mean_1 8 rfl rfl)
abbrev cX0_nothing : ByteArray := prog_1_method_5_code
def yX0_nothing : MethodName := ⟨RX0, "nothing", "()F"⟩
theorem dX0_nothing_0 : decode cX0_nothing 0 = .ok (.ldc 7, 2) := by decide +kernel
theorem dX0_nothing_2 : decode cX0_nothing 2 = .ok (.freturn, 1) := by decide +kernel
abbrev cX0_hundredths : ByteArray := prog_1_method_32_code
def yX0_hundredths : MethodName := ⟨RX0, "hundredths", "(II)I"⟩
def dkwX0_hundredths_1 : List UInt8 := [19, 1, 8, 106, 139, 167, 0, 5, 16, 254, 172]
abbrev dktX0_hundredths_1 : List UInt8 := dkwX0_hundredths_1 ++ []
def dkwX0_hundredths_0 : List UInt8 := [27, 184, 0, 98, 154, 0, 5, 2, 172, 28, 3, 4, 184, 0, 3, 153, 0, 17, 42, 27, 28, 182, 1, 0]
abbrev dktX0_hundredths_0 : List UInt8 := dkwX0_hundredths_0 ++ dktX0_hundredths_1
theorem dksX0_hundredths_0 : cX0_hundredths.data.toList.drop 0 = dktX0_hundredths_0 := by decide +kernel
theorem dksX0_hundredths_1 : cX0_hundredths.data.toList.drop 24 = dktX0_hundredths_1 := dk_seg dksX0_hundredths_0 24 rfl rfl
theorem dX0_hundredths_0 : decode cX0_hundredths 0 = .ok (.iload_n 1, 1) := dk_27 (dk_at dksX0_hundredths_0 0 rfl rfl)
theorem dX0_hundredths_1 : decode cX0_hundredths 1 = .ok (.invokestatic 98, 3) := dk_184 0 98 (dk_at dksX0_hundredths_0 1 rfl rfl)
theorem dX0_hundredths_4 : decode cX0_hundredths 4 = .ok (.ifCond .ne 5, 3) := dk_154 0 5 (dk_at dksX0_hundredths_0 4 rfl rfl)
theorem dX0_hundredths_7 : decode cX0_hundredths 7 = .ok (.iconst (-1), 1) := dk_2 (dk_at dksX0_hundredths_0 7 rfl rfl)
theorem dX0_hundredths_8 : decode cX0_hundredths 8 = .ok (.ireturn, 1) := dk_172 (dk_at dksX0_hundredths_0 8 rfl rfl)
theorem dX0_hundredths_9 : decode cX0_hundredths 9 = .ok (.iload_n 2, 1) := dk_28 (dk_at dksX0_hundredths_0 9 rfl rfl)
theorem dX0_hundredths_10 : decode cX0_hundredths 10 = .ok (.iconst 0, 1) := dk_3 (dk_at dksX0_hundredths_0 10 rfl rfl)
theorem dX0_hundredths_11 : decode cX0_hundredths 11 = .ok (.iconst 1, 1) := dk_4 (dk_at dksX0_hundredths_0 11 rfl rfl)
theorem dX0_hundredths_12 : decode cX0_hundredths 12 = .ok (.invokestatic 3, 3) := dk_184 0 3 (dk_at dksX0_hundredths_0 12 rfl rfl)
theorem dX0_hundredths_15 : decode cX0_hundredths 15 = .ok (.ifCond .eq 17, 3) := dk_153 0 17 (dk_at dksX0_hundredths_0 15 rfl rfl)
theorem dX0_hundredths_18 : decode cX0_hundredths 18 = .ok (.aload_n 0, 1) := dk_42 (dk_at dksX0_hundredths_0 18 rfl rfl)
theorem dX0_hundredths_19 : decode cX0_hundredths 19 = .ok (.iload_n 1, 1) := dk_27 (dk_at dksX0_hundredths_0 19 rfl rfl)
theorem dX0_hundredths_20 : decode cX0_hundredths 20 = .ok (.iload_n 2, 1) := dk_28 (dk_at dksX0_hundredths_0 20 rfl rfl)
theorem dX0_hundredths_21 : decode cX0_hundredths 21 = .ok (.invokevirtual 256, 3) := dk_182 1 0 (dk_at dksX0_hundredths_0 21 rfl rfl)
theorem dX0_hundredths_24 : decode cX0_hundredths 24 = .ok (.ldc_w 264, 3) := dk_19 1 8 (dk_at dksX0_hundredths_1 0 rfl rfl)
theorem dX0_hundredths_27 : decode cX0_hundredths 27 = .ok (.fmul, 1) := dk_106 (dk_at dksX0_hundredths_1 3 rfl rfl)
theorem dX0_hundredths_28 : decode cX0_hundredths 28 = .ok (.f2i, 1) := dk_139 (dk_at dksX0_hundredths_1 4 rfl rfl)
theorem dX0_hundredths_29 : decode cX0_hundredths 29 = .ok (.goto 5, 3) := dk_167 0 5 (dk_at dksX0_hundredths_1 5 rfl rfl)
theorem dX0_hundredths_32 : decode cX0_hundredths 32 = .ok (.bipush (-2), 2) := dk_16 254 (dk_at dksX0_hundredths_1 8 rfl rfl)
theorem dX0_hundredths_34 : decode cX0_hundredths 34 = .ok (.ireturn, 1) := dk_172 (dk_at dksX0_hundredths_1 10 rfl rfl)
abbrev cX0_typed : ByteArray := prog_1_method_33_code
def yX0_typed : MethodName := ⟨RX0, "typed", "(II)I"⟩
def dkwX0_typed_2 : List UInt8 := [167, 0, 7, 45, 182, 1, 19, 172]
abbrev dktX0_typed_2 : List UInt8 := dkwX0_typed_2 ++ []
def dkwX0_typed_1 : List UInt8 := [185, 0, 56, 2, 0, 192, 1, 12, 28, 182, 1, 14, 192, 1, 17, 78, 45, 199, 0, 8, 16, 251]
abbrev dktX0_typed_1 : List UInt8 := dkwX0_typed_1 ++ dktX0_typed_2
def dkwX0_typed_0 : List UInt8 := [27, 184, 0, 98, 154, 0, 5, 2, 172, 28, 156, 0, 6, 16, 254, 172, 42, 180, 0, 17, 180, 1, 9, 27]
abbrev dktX0_typed_0 : List UInt8 := dkwX0_typed_0 ++ dktX0_typed_1
theorem dksX0_typed_0 : cX0_typed.data.toList.drop 0 = dktX0_typed_0 := by decide +kernel
theorem dksX0_typed_1 : cX0_typed.data.toList.drop 24 = dktX0_typed_1 := dk_seg dksX0_typed_0 24 rfl rfl
theorem dksX0_typed_2 : cX0_typed.data.toList.drop 46 = dktX0_typed_2 := dk_seg dksX0_typed_1 22 rfl rfl
theorem dX0_typed_0 : decode cX0_typed 0 = .ok (.iload_n 1, 1) := dk_27 (dk_at dksX0_typed_0 0 rfl rfl)
theorem dX0_typed_1 : decode cX0_typed 1 = .ok (.invokestatic 98, 3) := dk_184 0 98 (dk_at dksX0_typed_0 1 rfl rfl)
theorem dX0_typed_4 : decode cX0_typed 4 = .ok (.ifCond .ne 5, 3) := dk_154 0 5 (dk_at dksX0_typed_0 4 rfl rfl)
theorem dX0_typed_7 : decode cX0_typed 7 = .ok (.iconst (-1), 1) := dk_2 (dk_at dksX0_typed_0 7 rfl rfl)
theorem dX0_typed_8 : decode cX0_typed 8 = .ok (.ireturn, 1) := dk_172 (dk_at dksX0_typed_0 8 rfl rfl)
theorem dX0_typed_9 : decode cX0_typed 9 = .ok (.iload_n 2, 1) := dk_28 (dk_at dksX0_typed_0 9 rfl rfl)
theorem dX0_typed_10 : decode cX0_typed 10 = .ok (.ifCond .ge 6, 3) := dk_156 0 6 (dk_at dksX0_typed_0 10 rfl rfl)
theorem dX0_typed_13 : decode cX0_typed 13 = .ok (.bipush (-2), 2) := dk_16 254 (dk_at dksX0_typed_0 13 rfl rfl)
theorem dX0_typed_15 : decode cX0_typed 15 = .ok (.ireturn, 1) := dk_172 (dk_at dksX0_typed_0 15 rfl rfl)
theorem dX0_typed_16 : decode cX0_typed 16 = .ok (.aload_n 0, 1) := dk_42 (dk_at dksX0_typed_0 16 rfl rfl)
theorem dX0_typed_17 : decode cX0_typed 17 = .ok (.getfield 17, 3) := dk_180 0 17 (dk_at dksX0_typed_0 17 rfl rfl)
theorem dX0_typed_20 : decode cX0_typed 20 = .ok (.getfield 265, 3) := dk_180 1 9 (dk_at dksX0_typed_0 20 rfl rfl)
theorem dX0_typed_23 : decode cX0_typed 23 = .ok (.iload_n 1, 1) := dk_27 (dk_at dksX0_typed_0 23 rfl rfl)
theorem dX0_typed_24 : decode cX0_typed 24 = .ok (.invokeinterface 56 2, 5) := by decide +kernel
theorem dX0_typed_29 : decode cX0_typed 29 = .ok (.checkcast 268, 3) := dk_192 1 12 (dk_at dksX0_typed_1 5 rfl rfl)
theorem dX0_typed_32 : decode cX0_typed 32 = .ok (.iload_n 2, 1) := dk_28 (dk_at dksX0_typed_1 8 rfl rfl)
theorem dX0_typed_33 : decode cX0_typed 33 = .ok (.invokevirtual 270, 3) := dk_182 1 14 (dk_at dksX0_typed_1 9 rfl rfl)
theorem dX0_typed_36 : decode cX0_typed 36 = .ok (.checkcast 273, 3) := dk_192 1 17 (dk_at dksX0_typed_1 12 rfl rfl)
theorem dX0_typed_39 : decode cX0_typed 39 = .ok (.astore_n 3, 1) := dk_78 (dk_at dksX0_typed_1 15 rfl rfl)
theorem dX0_typed_40 : decode cX0_typed 40 = .ok (.aload_n 3, 1) := dk_45 (dk_at dksX0_typed_1 16 rfl rfl)
theorem dX0_typed_41 : decode cX0_typed 41 = .ok (.ifnonnull 8, 3) := dk_199 0 8 (dk_at dksX0_typed_1 17 rfl rfl)
theorem dX0_typed_44 : decode cX0_typed 44 = .ok (.bipush (-5), 2) := dk_16 251 (dk_at dksX0_typed_1 20 rfl rfl)
theorem dX0_typed_46 : decode cX0_typed 46 = .ok (.goto 7, 3) := dk_167 0 7 (dk_at dksX0_typed_2 0 rfl rfl)
theorem dX0_typed_49 : decode cX0_typed 49 = .ok (.aload_n 3, 1) := dk_45 (dk_at dksX0_typed_2 3 rfl rfl)
theorem dX0_typed_50 : decode cX0_typed 50 = .ok (.invokevirtual 275, 3) := dk_182 1 19 (dk_at dksX0_typed_2 4 rfl rfl)
theorem dX0_typed_53 : decode cX0_typed 53 = .ok (.ireturn, 1) := dk_172 (dk_at dksX0_typed_2 7 rfl rfl)
abbrev cX0_stroke : ByteArray := prog_1_method_34_code
def yX0_stroke : MethodName := ⟨RX0, "stroke", "(II)I"⟩
def dkwX0_stroke_3 : List UInt8 := [167, 0, 8, 45, 28, 184, 1, 31, 172]
abbrev dktX0_stroke_3 : List UInt8 := dkwX0_stroke_3 ++ []
def dkwX0_stroke_2 : List UInt8 := [167, 0, 32, 28, 7, 160, 0, 10, 45, 180, 1, 30, 167, 0, 20, 28, 6, 160, 0, 10, 45, 180, 0, 149]
abbrev dktX0_stroke_2 : List UInt8 := dkwX0_stroke_2 ++ dktX0_stroke_3
def dkwX0_stroke_1 : List UInt8 := [182, 1, 14, 192, 0, 147, 78, 45, 199, 0, 6, 16, 251, 172, 28, 8, 160, 0, 10, 45, 180, 1, 27]
abbrev dktX0_stroke_1 : List UInt8 := dkwX0_stroke_1 ++ dktX0_stroke_2
def dkwX0_stroke_0 : List UInt8 := [27, 155, 0, 12, 28, 3, 8, 184, 0, 3, 154, 0, 6, 16, 254, 172, 42, 180, 0, 17, 180, 1, 23, 27]
abbrev dktX0_stroke_0 : List UInt8 := dkwX0_stroke_0 ++ dktX0_stroke_1
theorem dksX0_stroke_0 : cX0_stroke.data.toList.drop 0 = dktX0_stroke_0 := by decide +kernel
theorem dksX0_stroke_1 : cX0_stroke.data.toList.drop 24 = dktX0_stroke_1 := dk_seg dksX0_stroke_0 24 rfl rfl
theorem dksX0_stroke_2 : cX0_stroke.data.toList.drop 47 = dktX0_stroke_2 := dk_seg dksX0_stroke_1 23 rfl rfl
theorem dksX0_stroke_3 : cX0_stroke.data.toList.drop 71 = dktX0_stroke_3 := dk_seg dksX0_stroke_2 24 rfl rfl
theorem dX0_stroke_0 : decode cX0_stroke 0 = .ok (.iload_n 1, 1) := dk_27 (dk_at dksX0_stroke_0 0 rfl rfl)
theorem dX0_stroke_1 : decode cX0_stroke 1 = .ok (.ifCond .lt 12, 3) := dk_155 0 12 (dk_at dksX0_stroke_0 1 rfl rfl)
theorem dX0_stroke_4 : decode cX0_stroke 4 = .ok (.iload_n 2, 1) := dk_28 (dk_at dksX0_stroke_0 4 rfl rfl)
theorem dX0_stroke_5 : decode cX0_stroke 5 = .ok (.iconst 0, 1) := dk_3 (dk_at dksX0_stroke_0 5 rfl rfl)
theorem dX0_stroke_6 : decode cX0_stroke 6 = .ok (.iconst 5, 1) := dk_8 (dk_at dksX0_stroke_0 6 rfl rfl)
theorem dX0_stroke_7 : decode cX0_stroke 7 = .ok (.invokestatic 3, 3) := dk_184 0 3 (dk_at dksX0_stroke_0 7 rfl rfl)
theorem dX0_stroke_10 : decode cX0_stroke 10 = .ok (.ifCond .ne 6, 3) := dk_154 0 6 (dk_at dksX0_stroke_0 10 rfl rfl)
theorem dX0_stroke_13 : decode cX0_stroke 13 = .ok (.bipush (-2), 2) := dk_16 254 (dk_at dksX0_stroke_0 13 rfl rfl)
theorem dX0_stroke_15 : decode cX0_stroke 15 = .ok (.ireturn, 1) := dk_172 (dk_at dksX0_stroke_0 15 rfl rfl)
theorem dX0_stroke_16 : decode cX0_stroke 16 = .ok (.aload_n 0, 1) := dk_42 (dk_at dksX0_stroke_0 16 rfl rfl)
theorem dX0_stroke_17 : decode cX0_stroke 17 = .ok (.getfield 17, 3) := dk_180 0 17 (dk_at dksX0_stroke_0 17 rfl rfl)
theorem dX0_stroke_20 : decode cX0_stroke 20 = .ok (.getfield 279, 3) := dk_180 1 23 (dk_at dksX0_stroke_0 20 rfl rfl)
theorem dX0_stroke_23 : decode cX0_stroke 23 = .ok (.iload_n 1, 1) := dk_27 (dk_at dksX0_stroke_0 23 rfl rfl)
theorem dX0_stroke_24 : decode cX0_stroke 24 = .ok (.invokevirtual 270, 3) := dk_182 1 14 (dk_at dksX0_stroke_1 0 rfl rfl)
theorem dX0_stroke_27 : decode cX0_stroke 27 = .ok (.checkcast 147, 3) := dk_192 0 147 (dk_at dksX0_stroke_1 3 rfl rfl)
theorem dX0_stroke_30 : decode cX0_stroke 30 = .ok (.astore_n 3, 1) := dk_78 (dk_at dksX0_stroke_1 6 rfl rfl)
theorem dX0_stroke_31 : decode cX0_stroke 31 = .ok (.aload_n 3, 1) := dk_45 (dk_at dksX0_stroke_1 7 rfl rfl)
theorem dX0_stroke_32 : decode cX0_stroke 32 = .ok (.ifnonnull 6, 3) := dk_199 0 6 (dk_at dksX0_stroke_1 8 rfl rfl)
theorem dX0_stroke_35 : decode cX0_stroke 35 = .ok (.bipush (-5), 2) := dk_16 251 (dk_at dksX0_stroke_1 11 rfl rfl)
theorem dX0_stroke_37 : decode cX0_stroke 37 = .ok (.ireturn, 1) := dk_172 (dk_at dksX0_stroke_1 13 rfl rfl)
theorem dX0_stroke_38 : decode cX0_stroke 38 = .ok (.iload_n 2, 1) := dk_28 (dk_at dksX0_stroke_1 14 rfl rfl)
theorem dX0_stroke_39 : decode cX0_stroke 39 = .ok (.iconst 5, 1) := dk_8 (dk_at dksX0_stroke_1 15 rfl rfl)
theorem dX0_stroke_40 : decode cX0_stroke 40 = .ok (.if_icmp .ne 10, 3) := dk_160 0 10 (dk_at dksX0_stroke_1 16 rfl rfl)
theorem dX0_stroke_43 : decode cX0_stroke 43 = .ok (.aload_n 3, 1) := dk_45 (dk_at dksX0_stroke_1 19 rfl rfl)
theorem dX0_stroke_44 : decode cX0_stroke 44 = .ok (.getfield 283, 3) := dk_180 1 27 (dk_at dksX0_stroke_1 20 rfl rfl)
theorem dX0_stroke_47 : decode cX0_stroke 47 = .ok (.goto 32, 3) := dk_167 0 32 (dk_at dksX0_stroke_2 0 rfl rfl)
theorem dX0_stroke_50 : decode cX0_stroke 50 = .ok (.iload_n 2, 1) := dk_28 (dk_at dksX0_stroke_2 3 rfl rfl)
theorem dX0_stroke_51 : decode cX0_stroke 51 = .ok (.iconst 4, 1) := dk_7 (dk_at dksX0_stroke_2 4 rfl rfl)
theorem dX0_stroke_52 : decode cX0_stroke 52 = .ok (.if_icmp .ne 10, 3) := dk_160 0 10 (dk_at dksX0_stroke_2 5 rfl rfl)
theorem dX0_stroke_55 : decode cX0_stroke 55 = .ok (.aload_n 3, 1) := dk_45 (dk_at dksX0_stroke_2 8 rfl rfl)
theorem dX0_stroke_56 : decode cX0_stroke 56 = .ok (.getfield 286, 3) := dk_180 1 30 (dk_at dksX0_stroke_2 9 rfl rfl)
theorem dX0_stroke_59 : decode cX0_stroke 59 = .ok (.goto 20, 3) := dk_167 0 20 (dk_at dksX0_stroke_2 12 rfl rfl)
theorem dX0_stroke_62 : decode cX0_stroke 62 = .ok (.iload_n 2, 1) := dk_28 (dk_at dksX0_stroke_2 15 rfl rfl)
theorem dX0_stroke_63 : decode cX0_stroke 63 = .ok (.iconst 3, 1) := dk_6 (dk_at dksX0_stroke_2 16 rfl rfl)
theorem dX0_stroke_64 : decode cX0_stroke 64 = .ok (.if_icmp .ne 10, 3) := dk_160 0 10 (dk_at dksX0_stroke_2 17 rfl rfl)
theorem dX0_stroke_67 : decode cX0_stroke 67 = .ok (.aload_n 3, 1) := dk_45 (dk_at dksX0_stroke_2 20 rfl rfl)
theorem dX0_stroke_68 : decode cX0_stroke 68 = .ok (.getfield 149, 3) := dk_180 0 149 (dk_at dksX0_stroke_2 21 rfl rfl)
theorem dX0_stroke_71 : decode cX0_stroke 71 = .ok (.goto 8, 3) := dk_167 0 8 (dk_at dksX0_stroke_3 0 rfl rfl)
theorem dX0_stroke_74 : decode cX0_stroke 74 = .ok (.aload_n 3, 1) := dk_45 (dk_at dksX0_stroke_3 3 rfl rfl)
theorem dX0_stroke_75 : decode cX0_stroke 75 = .ok (.iload_n 2, 1) := dk_28 (dk_at dksX0_stroke_3 4 rfl rfl)
theorem dX0_stroke_76 : decode cX0_stroke 76 = .ok (.invokestatic 287, 3) := dk_184 1 31 (dk_at dksX0_stroke_3 5 rfl rfl)
theorem dX0_stroke_79 : decode cX0_stroke 79 = .ok (.ireturn, 1) := dk_172 (dk_at dksX0_stroke_3 8 rfl rfl)
abbrev cX0_told : ByteArray := prog_1_method_35_code
def yX0_told : MethodName := ⟨RX0, "told", "(LBlanketKeys$Stroke;I)I"⟩
def dkwX0_told_1 : List UInt8 := [180, 1, 36, 172]
abbrev dktX0_told_1 : List UInt8 := dkwX0_told_1 ++ []
def dkwX0_told_0 : List UInt8 := [27, 154, 0, 10, 42, 180, 0, 155, 167, 0, 19, 27, 4, 160, 0, 10, 42, 180, 1, 35, 167, 0, 7, 42]
abbrev dktX0_told_0 : List UInt8 := dkwX0_told_0 ++ dktX0_told_1
theorem dksX0_told_0 : cX0_told.data.toList.drop 0 = dktX0_told_0 := by decide +kernel
theorem dksX0_told_1 : cX0_told.data.toList.drop 24 = dktX0_told_1 := dk_seg dksX0_told_0 24 rfl rfl
theorem dX0_told_0 : decode cX0_told 0 = .ok (.iload_n 1, 1) := dk_27 (dk_at dksX0_told_0 0 rfl rfl)
theorem dX0_told_1 : decode cX0_told 1 = .ok (.ifCond .ne 10, 3) := dk_154 0 10 (dk_at dksX0_told_0 1 rfl rfl)
theorem dX0_told_4 : decode cX0_told 4 = .ok (.aload_n 0, 1) := dk_42 (dk_at dksX0_told_0 4 rfl rfl)
theorem dX0_told_5 : decode cX0_told 5 = .ok (.getfield 155, 3) := dk_180 0 155 (dk_at dksX0_told_0 5 rfl rfl)
theorem dX0_told_8 : decode cX0_told 8 = .ok (.goto 19, 3) := dk_167 0 19 (dk_at dksX0_told_0 8 rfl rfl)
theorem dX0_told_11 : decode cX0_told 11 = .ok (.iload_n 1, 1) := dk_27 (dk_at dksX0_told_0 11 rfl rfl)
theorem dX0_told_12 : decode cX0_told 12 = .ok (.iconst 1, 1) := dk_4 (dk_at dksX0_told_0 12 rfl rfl)
theorem dX0_told_13 : decode cX0_told 13 = .ok (.if_icmp .ne 10, 3) := dk_160 0 10 (dk_at dksX0_told_0 13 rfl rfl)
theorem dX0_told_16 : decode cX0_told 16 = .ok (.aload_n 0, 1) := dk_42 (dk_at dksX0_told_0 16 rfl rfl)
theorem dX0_told_17 : decode cX0_told 17 = .ok (.getfield 291, 3) := dk_180 1 35 (dk_at dksX0_told_0 17 rfl rfl)
theorem dX0_told_20 : decode cX0_told 20 = .ok (.goto 7, 3) := dk_167 0 7 (dk_at dksX0_told_0 20 rfl rfl)
theorem dX0_told_23 : decode cX0_told 23 = .ok (.aload_n 0, 1) := dk_42 (dk_at dksX0_told_0 23 rfl rfl)
theorem dX0_told_24 : decode cX0_told 24 = .ok (.getfield 292, 3) := dk_180 1 36 (dk_at dksX0_told_1 0 rfl rfl)
theorem dX0_told_27 : decode cX0_told 27 = .ok (.ireturn, 1) := dk_172 (dk_at dksX0_told_1 3 rfl rfl)
abbrev cX0_dispute : ByteArray := prog_1_method_36_code
def yX0_dispute : MethodName := ⟨RX0, "dispute", "(II)I"⟩
def dkwX0_dispute_3 : List UInt8 := [160, 0, 8, 16, 251, 167, 0, 7, 45, 180, 0, 149, 172]
abbrev dktX0_dispute_3 : List UInt8 := dkwX0_dispute_3 ++ []
def dkwX0_dispute_2 : List UInt8 := [180, 1, 30, 167, 0, 33, 28, 6, 162, 0, 11, 45, 28, 184, 1, 31, 167, 0, 20, 45, 180, 0, 149, 6]
abbrev dktX0_dispute_2 : List UInt8 := dkwX0_dispute_2 ++ dktX0_dispute_3
def dkwX0_dispute_1 : List UInt8 := [180, 0, 17, 180, 0, 141, 27, 185, 0, 56, 2, 0, 192, 0, 147, 78, 28, 7, 160, 0, 10, 45]
abbrev dktX0_dispute_1 : List UInt8 := dkwX0_dispute_1 ++ dktX0_dispute_2
def dkwX0_dispute_0 : List UInt8 := [42, 27, 182, 0, 144, 154, 0, 5, 2, 172, 28, 3, 7, 184, 0, 3, 154, 0, 6, 16, 254, 172, 42]
abbrev dktX0_dispute_0 : List UInt8 := dkwX0_dispute_0 ++ dktX0_dispute_1
theorem dksX0_dispute_0 : cX0_dispute.data.toList.drop 0 = dktX0_dispute_0 := by decide +kernel
theorem dksX0_dispute_1 : cX0_dispute.data.toList.drop 23 = dktX0_dispute_1 := dk_seg dksX0_dispute_0 23 rfl rfl
theorem dksX0_dispute_2 : cX0_dispute.data.toList.drop 45 = dktX0_dispute_2 := dk_seg dksX0_dispute_1 22 rfl rfl
theorem dksX0_dispute_3 : cX0_dispute.data.toList.drop 69 = dktX0_dispute_3 := dk_seg dksX0_dispute_2 24 rfl rfl
theorem dX0_dispute_0 : decode cX0_dispute 0 = .ok (.aload_n 0, 1) := dk_42 (dk_at dksX0_dispute_0 0 rfl rfl)
theorem dX0_dispute_1 : decode cX0_dispute 1 = .ok (.iload_n 1, 1) := dk_27 (dk_at dksX0_dispute_0 1 rfl rfl)
theorem dX0_dispute_2 : decode cX0_dispute 2 = .ok (.invokevirtual 144, 3) := dk_182 0 144 (dk_at dksX0_dispute_0 2 rfl rfl)
theorem dX0_dispute_5 : decode cX0_dispute 5 = .ok (.ifCond .ne 5, 3) := dk_154 0 5 (dk_at dksX0_dispute_0 5 rfl rfl)
theorem dX0_dispute_8 : decode cX0_dispute 8 = .ok (.iconst (-1), 1) := dk_2 (dk_at dksX0_dispute_0 8 rfl rfl)
theorem dX0_dispute_9 : decode cX0_dispute 9 = .ok (.ireturn, 1) := dk_172 (dk_at dksX0_dispute_0 9 rfl rfl)
theorem dX0_dispute_10 : decode cX0_dispute 10 = .ok (.iload_n 2, 1) := dk_28 (dk_at dksX0_dispute_0 10 rfl rfl)
theorem dX0_dispute_11 : decode cX0_dispute 11 = .ok (.iconst 0, 1) := dk_3 (dk_at dksX0_dispute_0 11 rfl rfl)
theorem dX0_dispute_12 : decode cX0_dispute 12 = .ok (.iconst 4, 1) := dk_7 (dk_at dksX0_dispute_0 12 rfl rfl)
theorem dX0_dispute_13 : decode cX0_dispute 13 = .ok (.invokestatic 3, 3) := dk_184 0 3 (dk_at dksX0_dispute_0 13 rfl rfl)
theorem dX0_dispute_16 : decode cX0_dispute 16 = .ok (.ifCond .ne 6, 3) := dk_154 0 6 (dk_at dksX0_dispute_0 16 rfl rfl)
theorem dX0_dispute_19 : decode cX0_dispute 19 = .ok (.bipush (-2), 2) := dk_16 254 (dk_at dksX0_dispute_0 19 rfl rfl)
theorem dX0_dispute_21 : decode cX0_dispute 21 = .ok (.ireturn, 1) := dk_172 (dk_at dksX0_dispute_0 21 rfl rfl)
theorem dX0_dispute_22 : decode cX0_dispute 22 = .ok (.aload_n 0, 1) := dk_42 (dk_at dksX0_dispute_0 22 rfl rfl)
theorem dX0_dispute_23 : decode cX0_dispute 23 = .ok (.getfield 17, 3) := dk_180 0 17 (dk_at dksX0_dispute_1 0 rfl rfl)
theorem dX0_dispute_26 : decode cX0_dispute 26 = .ok (.getfield 141, 3) := dk_180 0 141 (dk_at dksX0_dispute_1 3 rfl rfl)
theorem dX0_dispute_29 : decode cX0_dispute 29 = .ok (.iload_n 1, 1) := dk_27 (dk_at dksX0_dispute_1 6 rfl rfl)
theorem dX0_dispute_30 : decode cX0_dispute 30 = .ok (.invokeinterface 56 2, 5) := by decide +kernel
theorem dX0_dispute_35 : decode cX0_dispute 35 = .ok (.checkcast 147, 3) := dk_192 0 147 (dk_at dksX0_dispute_1 12 rfl rfl)
theorem dX0_dispute_38 : decode cX0_dispute 38 = .ok (.astore_n 3, 1) := dk_78 (dk_at dksX0_dispute_1 15 rfl rfl)
theorem dX0_dispute_39 : decode cX0_dispute 39 = .ok (.iload_n 2, 1) := dk_28 (dk_at dksX0_dispute_1 16 rfl rfl)
theorem dX0_dispute_40 : decode cX0_dispute 40 = .ok (.iconst 4, 1) := dk_7 (dk_at dksX0_dispute_1 17 rfl rfl)
theorem dX0_dispute_41 : decode cX0_dispute 41 = .ok (.if_icmp .ne 10, 3) := dk_160 0 10 (dk_at dksX0_dispute_1 18 rfl rfl)
theorem dX0_dispute_44 : decode cX0_dispute 44 = .ok (.aload_n 3, 1) := dk_45 (dk_at dksX0_dispute_1 21 rfl rfl)
theorem dX0_dispute_45 : decode cX0_dispute 45 = .ok (.getfield 286, 3) := dk_180 1 30 (dk_at dksX0_dispute_2 0 rfl rfl)
theorem dX0_dispute_48 : decode cX0_dispute 48 = .ok (.goto 33, 3) := dk_167 0 33 (dk_at dksX0_dispute_2 3 rfl rfl)
theorem dX0_dispute_51 : decode cX0_dispute 51 = .ok (.iload_n 2, 1) := dk_28 (dk_at dksX0_dispute_2 6 rfl rfl)
theorem dX0_dispute_52 : decode cX0_dispute 52 = .ok (.iconst 3, 1) := dk_6 (dk_at dksX0_dispute_2 7 rfl rfl)
theorem dX0_dispute_53 : decode cX0_dispute 53 = .ok (.if_icmp .ge 11, 3) := dk_162 0 11 (dk_at dksX0_dispute_2 8 rfl rfl)
theorem dX0_dispute_56 : decode cX0_dispute 56 = .ok (.aload_n 3, 1) := dk_45 (dk_at dksX0_dispute_2 11 rfl rfl)
theorem dX0_dispute_57 : decode cX0_dispute 57 = .ok (.iload_n 2, 1) := dk_28 (dk_at dksX0_dispute_2 12 rfl rfl)
theorem dX0_dispute_58 : decode cX0_dispute 58 = .ok (.invokestatic 287, 3) := dk_184 1 31 (dk_at dksX0_dispute_2 13 rfl rfl)
theorem dX0_dispute_61 : decode cX0_dispute 61 = .ok (.goto 20, 3) := dk_167 0 20 (dk_at dksX0_dispute_2 16 rfl rfl)
theorem dX0_dispute_64 : decode cX0_dispute 64 = .ok (.aload_n 3, 1) := dk_45 (dk_at dksX0_dispute_2 19 rfl rfl)
theorem dX0_dispute_65 : decode cX0_dispute 65 = .ok (.getfield 149, 3) := dk_180 0 149 (dk_at dksX0_dispute_2 20 rfl rfl)
theorem dX0_dispute_68 : decode cX0_dispute 68 = .ok (.iconst 3, 1) := dk_6 (dk_at dksX0_dispute_2 23 rfl rfl)
theorem dX0_dispute_69 : decode cX0_dispute 69 = .ok (.if_icmp .ne 8, 3) := dk_160 0 8 (dk_at dksX0_dispute_3 0 rfl rfl)
theorem dX0_dispute_72 : decode cX0_dispute 72 = .ok (.bipush (-5), 2) := dk_16 251 (dk_at dksX0_dispute_3 3 rfl rfl)
theorem dX0_dispute_74 : decode cX0_dispute 74 = .ok (.goto 7, 3) := dk_167 0 7 (dk_at dksX0_dispute_3 5 rfl rfl)
theorem dX0_dispute_77 : decode cX0_dispute 77 = .ok (.aload_n 3, 1) := dk_45 (dk_at dksX0_dispute_3 8 rfl rfl)
theorem dX0_dispute_78 : decode cX0_dispute 78 = .ok (.getfield 149, 3) := dk_180 0 149 (dk_at dksX0_dispute_3 9 rfl rfl)
theorem dX0_dispute_81 : decode cX0_dispute 81 = .ok (.ireturn, 1) := dk_172 (dk_at dksX0_dispute_3 12 rfl rfl)
abbrev cX0_distance : ByteArray := prog_1_method_37_code
def yX0_distance : MethodName := ⟨RX0, "distance", "(III)F"⟩
def dkwX0_distance_1 : List UInt8 := [180, 0, 17, 180, 0, 240, 27, 50, 28, 29, 182, 1, 38, 167, 0, 6, 184, 1, 4, 174]
abbrev dktX0_distance_1 : List UInt8 := dkwX0_distance_1 ++ []
def dkwX0_distance_0 : List UInt8 := [27, 184, 0, 98, 153, 0, 35, 28, 155, 0, 31, 29, 3, 17, 39, 15, 184, 0, 3, 153, 0, 20, 42]
abbrev dktX0_distance_0 : List UInt8 := dkwX0_distance_0 ++ dktX0_distance_1
theorem dksX0_distance_0 : cX0_distance.data.toList.drop 0 = dktX0_distance_0 := by decide +kernel
theorem dksX0_distance_1 : cX0_distance.data.toList.drop 23 = dktX0_distance_1 := dk_seg dksX0_distance_0 23 rfl rfl
theorem dX0_distance_0 : decode cX0_distance 0 = .ok (.iload_n 1, 1) := dk_27 (dk_at dksX0_distance_0 0 rfl rfl)
theorem dX0_distance_1 : decode cX0_distance 1 = .ok (.invokestatic 98, 3) := dk_184 0 98 (dk_at dksX0_distance_0 1 rfl rfl)
theorem dX0_distance_4 : decode cX0_distance 4 = .ok (.ifCond .eq 35, 3) := dk_153 0 35 (dk_at dksX0_distance_0 4 rfl rfl)
theorem dX0_distance_7 : decode cX0_distance 7 = .ok (.iload_n 2, 1) := dk_28 (dk_at dksX0_distance_0 7 rfl rfl)
theorem dX0_distance_8 : decode cX0_distance 8 = .ok (.ifCond .lt 31, 3) := dk_155 0 31 (dk_at dksX0_distance_0 8 rfl rfl)
theorem dX0_distance_11 : decode cX0_distance 11 = .ok (.iload_n 3, 1) := dk_29 (dk_at dksX0_distance_0 11 rfl rfl)
theorem dX0_distance_12 : decode cX0_distance 12 = .ok (.iconst 0, 1) := dk_3 (dk_at dksX0_distance_0 12 rfl rfl)
theorem dX0_distance_13 : decode cX0_distance 13 = .ok (.sipush 9999, 3) := dk_17 39 15 (dk_at dksX0_distance_0 13 rfl rfl)
theorem dX0_distance_16 : decode cX0_distance 16 = .ok (.invokestatic 3, 3) := dk_184 0 3 (dk_at dksX0_distance_0 16 rfl rfl)
theorem dX0_distance_19 : decode cX0_distance 19 = .ok (.ifCond .eq 20, 3) := dk_153 0 20 (dk_at dksX0_distance_0 19 rfl rfl)
theorem dX0_distance_22 : decode cX0_distance 22 = .ok (.aload_n 0, 1) := dk_42 (dk_at dksX0_distance_0 22 rfl rfl)
theorem dX0_distance_23 : decode cX0_distance 23 = .ok (.getfield 17, 3) := dk_180 0 17 (dk_at dksX0_distance_1 0 rfl rfl)
theorem dX0_distance_26 : decode cX0_distance 26 = .ok (.getfield 240, 3) := dk_180 0 240 (dk_at dksX0_distance_1 3 rfl rfl)
theorem dX0_distance_29 : decode cX0_distance 29 = .ok (.iload_n 1, 1) := dk_27 (dk_at dksX0_distance_1 6 rfl rfl)
theorem dX0_distance_30 : decode cX0_distance 30 = .ok (.aaload, 1) := dk_50 (dk_at dksX0_distance_1 7 rfl rfl)
theorem dX0_distance_31 : decode cX0_distance 31 = .ok (.iload_n 2, 1) := dk_28 (dk_at dksX0_distance_1 8 rfl rfl)
theorem dX0_distance_32 : decode cX0_distance 32 = .ok (.iload_n 3, 1) := dk_29 (dk_at dksX0_distance_1 9 rfl rfl)
theorem dX0_distance_33 : decode cX0_distance 33 = .ok (.invokevirtual 294, 3) := dk_182 1 38 (dk_at dksX0_distance_1 10 rfl rfl)
theorem dX0_distance_36 : decode cX0_distance 36 = .ok (.goto 6, 3) := dk_167 0 6 (dk_at dksX0_distance_1 13 rfl rfl)
theorem dX0_distance_39 : decode cX0_distance 39 = .ok (.invokestatic 260, 3) := dk_184 1 4 (dk_at dksX0_distance_1 16 rfl rfl)
theorem dX0_distance_42 : decode cX0_distance 42 = .ok (.freturn, 1) := dk_174 (dk_at dksX0_distance_1 19 rfl rfl)
abbrev cX0_verdict : ByteArray := prog_1_method_38_code
def yX0_verdict : MethodName := ⟨RX0, "verdict", "(I)I"⟩
def dkwX0_verdict_2 : List UInt8 := [180, 0, 215, 100, 182, 1, 41, 167, 0, 5, 16, 251, 172]
abbrev dktX0_verdict_2 : List UInt8 := dkwX0_verdict_2 ++ []
def dkwX0_verdict_1 : List UInt8 := [192, 0, 59, 77, 44, 182, 0, 65, 153, 0, 26, 42, 180, 0, 17, 44, 42, 180, 0, 17, 180, 0, 209, 44]
abbrev dktX0_verdict_1 : List UInt8 := dkwX0_verdict_1 ++ dktX0_verdict_2
def dkwX0_verdict_0 : List UInt8 := [42, 27, 182, 0, 83, 154, 0, 5, 2, 172, 42, 180, 0, 17, 180, 0, 53, 27, 185, 0, 56, 2, 0]
abbrev dktX0_verdict_0 : List UInt8 := dkwX0_verdict_0 ++ dktX0_verdict_1
theorem dksX0_verdict_0 : cX0_verdict.data.toList.drop 0 = dktX0_verdict_0 := by decide +kernel
theorem dksX0_verdict_1 : cX0_verdict.data.toList.drop 23 = dktX0_verdict_1 := dk_seg dksX0_verdict_0 23 rfl rfl
theorem dksX0_verdict_2 : cX0_verdict.data.toList.drop 47 = dktX0_verdict_2 := dk_seg dksX0_verdict_1 24 rfl rfl
theorem dX0_verdict_0 : decode cX0_verdict 0 = .ok (.aload_n 0, 1) := dk_42 (dk_at dksX0_verdict_0 0 rfl rfl)
theorem dX0_verdict_1 : decode cX0_verdict 1 = .ok (.iload_n 1, 1) := dk_27 (dk_at dksX0_verdict_0 1 rfl rfl)
theorem dX0_verdict_2 : decode cX0_verdict 2 = .ok (.invokevirtual 83, 3) := dk_182 0 83 (dk_at dksX0_verdict_0 2 rfl rfl)
theorem dX0_verdict_5 : decode cX0_verdict 5 = .ok (.ifCond .ne 5, 3) := dk_154 0 5 (dk_at dksX0_verdict_0 5 rfl rfl)
theorem dX0_verdict_8 : decode cX0_verdict 8 = .ok (.iconst (-1), 1) := dk_2 (dk_at dksX0_verdict_0 8 rfl rfl)
theorem dX0_verdict_9 : decode cX0_verdict 9 = .ok (.ireturn, 1) := dk_172 (dk_at dksX0_verdict_0 9 rfl rfl)
theorem dX0_verdict_10 : decode cX0_verdict 10 = .ok (.aload_n 0, 1) := dk_42 (dk_at dksX0_verdict_0 10 rfl rfl)
theorem dX0_verdict_11 : decode cX0_verdict 11 = .ok (.getfield 17, 3) := dk_180 0 17 (dk_at dksX0_verdict_0 11 rfl rfl)
theorem dX0_verdict_14 : decode cX0_verdict 14 = .ok (.getfield 53, 3) := dk_180 0 53 (dk_at dksX0_verdict_0 14 rfl rfl)
theorem dX0_verdict_17 : decode cX0_verdict 17 = .ok (.iload_n 1, 1) := dk_27 (dk_at dksX0_verdict_0 17 rfl rfl)
theorem dX0_verdict_18 : decode cX0_verdict 18 = .ok (.invokeinterface 56 2, 5) := by decide +kernel
theorem dX0_verdict_23 : decode cX0_verdict 23 = .ok (.checkcast 59, 3) := dk_192 0 59 (dk_at dksX0_verdict_1 0 rfl rfl)
theorem dX0_verdict_26 : decode cX0_verdict 26 = .ok (.astore_n 2, 1) := dk_77 (dk_at dksX0_verdict_1 3 rfl rfl)
theorem dX0_verdict_27 : decode cX0_verdict 27 = .ok (.aload_n 2, 1) := dk_44 (dk_at dksX0_verdict_1 4 rfl rfl)
theorem dX0_verdict_28 : decode cX0_verdict 28 = .ok (.invokevirtual 65, 3) := dk_182 0 65 (dk_at dksX0_verdict_1 5 rfl rfl)
theorem dX0_verdict_31 : decode cX0_verdict 31 = .ok (.ifCond .eq 26, 3) := dk_153 0 26 (dk_at dksX0_verdict_1 8 rfl rfl)
theorem dX0_verdict_34 : decode cX0_verdict 34 = .ok (.aload_n 0, 1) := dk_42 (dk_at dksX0_verdict_1 11 rfl rfl)
theorem dX0_verdict_35 : decode cX0_verdict 35 = .ok (.getfield 17, 3) := dk_180 0 17 (dk_at dksX0_verdict_1 12 rfl rfl)
theorem dX0_verdict_38 : decode cX0_verdict 38 = .ok (.aload_n 2, 1) := dk_44 (dk_at dksX0_verdict_1 15 rfl rfl)
theorem dX0_verdict_39 : decode cX0_verdict 39 = .ok (.aload_n 0, 1) := dk_42 (dk_at dksX0_verdict_1 16 rfl rfl)
theorem dX0_verdict_40 : decode cX0_verdict 40 = .ok (.getfield 17, 3) := dk_180 0 17 (dk_at dksX0_verdict_1 17 rfl rfl)
theorem dX0_verdict_43 : decode cX0_verdict 43 = .ok (.getfield 209, 3) := dk_180 0 209 (dk_at dksX0_verdict_1 20 rfl rfl)
theorem dX0_verdict_46 : decode cX0_verdict 46 = .ok (.aload_n 2, 1) := dk_44 (dk_at dksX0_verdict_1 23 rfl rfl)
theorem dX0_verdict_47 : decode cX0_verdict 47 = .ok (.getfield 215, 3) := dk_180 0 215 (dk_at dksX0_verdict_2 0 rfl rfl)
theorem dX0_verdict_50 : decode cX0_verdict 50 = .ok (.isub, 1) := dk_100 (dk_at dksX0_verdict_2 3 rfl rfl)
theorem dX0_verdict_51 : decode cX0_verdict 51 = .ok (.invokevirtual 297, 3) := dk_182 1 41 (dk_at dksX0_verdict_2 4 rfl rfl)
theorem dX0_verdict_54 : decode cX0_verdict 54 = .ok (.goto 5, 3) := dk_167 0 5 (dk_at dksX0_verdict_2 7 rfl rfl)
theorem dX0_verdict_57 : decode cX0_verdict 57 = .ok (.bipush (-5), 2) := dk_16 251 (dk_at dksX0_verdict_2 10 rfl rfl)
theorem dX0_verdict_59 : decode cX0_verdict 59 = .ok (.ireturn, 1) := dk_172 (dk_at dksX0_verdict_2 12 rfl rfl)
abbrev cX0_ghostsBy : ByteArray := prog_1_method_40_code
def yX0_ghostsBy : MethodName := ⟨RX0, "ghostsBy", "(I)I"⟩
def dkwX0_ghostsBy_4 : List UInt8 := [32, 20, 1, 49, 131, 127, 184, 1, 51, 100, 16, 100, 96, 172]
abbrev dktX0_ghostsBy_4 : List UInt8 := dkwX0_ghostsBy_4 ++ []
def dkwX0_ghostsBy_3 : List UInt8 := [181, 0, 212, 25, 4, 27, 184, 1, 45, 55, 5, 32, 22, 5, 20, 1, 49, 131, 127, 184, 1, 51, 22, 5]
abbrev dktX0_ghostsBy_3 : List UInt8 := dkwX0_ghostsBy_3 ++ dktX0_ghostsBy_4
def dkwX0_ghostsBy_2 : List UInt8 := [180, 0, 53, 27, 185, 0, 56, 2, 0, 192, 0, 59, 182, 0, 61, 153, 0, 8, 16, 251, 167, 0, 4, 3]
abbrev dktX0_ghostsBy_2 : List UInt8 := dkwX0_ghostsBy_2 ++ dktX0_ghostsBy_3
def dkwX0_ghostsBy_1 : List UInt8 := [182, 0, 75, 58, 4, 25, 4, 180, 0, 53, 27, 185, 0, 56, 2, 0, 192, 0, 59, 42, 180, 0, 17]
abbrev dktX0_ghostsBy_1 : List UInt8 := dkwX0_ghostsBy_1 ++ dktX0_ghostsBy_2
def dkwX0_ghostsBy_0 : List UInt8 := [42, 27, 182, 0, 83, 154, 0, 5, 2, 172, 42, 180, 0, 17, 27, 184, 1, 45, 65, 42, 180, 0, 17]
abbrev dktX0_ghostsBy_0 : List UInt8 := dkwX0_ghostsBy_0 ++ dktX0_ghostsBy_1
theorem dksX0_ghostsBy_0 : cX0_ghostsBy.data.toList.drop 0 = dktX0_ghostsBy_0 := by decide +kernel
theorem dksX0_ghostsBy_1 : cX0_ghostsBy.data.toList.drop 23 = dktX0_ghostsBy_1 := dk_seg dksX0_ghostsBy_0 23 rfl rfl
theorem dksX0_ghostsBy_2 : cX0_ghostsBy.data.toList.drop 46 = dktX0_ghostsBy_2 := dk_seg dksX0_ghostsBy_1 23 rfl rfl
theorem dksX0_ghostsBy_3 : cX0_ghostsBy.data.toList.drop 70 = dktX0_ghostsBy_3 := dk_seg dksX0_ghostsBy_2 24 rfl rfl
theorem dksX0_ghostsBy_4 : cX0_ghostsBy.data.toList.drop 94 = dktX0_ghostsBy_4 := dk_seg dksX0_ghostsBy_3 24 rfl rfl
theorem dX0_ghostsBy_0 : decode cX0_ghostsBy 0 = .ok (.aload_n 0, 1) := dk_42 (dk_at dksX0_ghostsBy_0 0 rfl rfl)
theorem dX0_ghostsBy_1 : decode cX0_ghostsBy 1 = .ok (.iload_n 1, 1) := dk_27 (dk_at dksX0_ghostsBy_0 1 rfl rfl)
theorem dX0_ghostsBy_2 : decode cX0_ghostsBy 2 = .ok (.invokevirtual 83, 3) := dk_182 0 83 (dk_at dksX0_ghostsBy_0 2 rfl rfl)
theorem dX0_ghostsBy_5 : decode cX0_ghostsBy 5 = .ok (.ifCond .ne 5, 3) := dk_154 0 5 (dk_at dksX0_ghostsBy_0 5 rfl rfl)
theorem dX0_ghostsBy_8 : decode cX0_ghostsBy 8 = .ok (.iconst (-1), 1) := dk_2 (dk_at dksX0_ghostsBy_0 8 rfl rfl)
theorem dX0_ghostsBy_9 : decode cX0_ghostsBy 9 = .ok (.ireturn, 1) := dk_172 (dk_at dksX0_ghostsBy_0 9 rfl rfl)
theorem dX0_ghostsBy_10 : decode cX0_ghostsBy 10 = .ok (.aload_n 0, 1) := dk_42 (dk_at dksX0_ghostsBy_0 10 rfl rfl)
theorem dX0_ghostsBy_11 : decode cX0_ghostsBy 11 = .ok (.getfield 17, 3) := dk_180 0 17 (dk_at dksX0_ghostsBy_0 11 rfl rfl)
theorem dX0_ghostsBy_14 : decode cX0_ghostsBy 14 = .ok (.iload_n 1, 1) := dk_27 (dk_at dksX0_ghostsBy_0 14 rfl rfl)
theorem dX0_ghostsBy_15 : decode cX0_ghostsBy 15 = .ok (.invokestatic 301, 3) := dk_184 1 45 (dk_at dksX0_ghostsBy_0 15 rfl rfl)
theorem dX0_ghostsBy_18 : decode cX0_ghostsBy 18 = .ok (.lstore_n 2, 1) := dk_65 (dk_at dksX0_ghostsBy_0 18 rfl rfl)
theorem dX0_ghostsBy_19 : decode cX0_ghostsBy 19 = .ok (.aload_n 0, 1) := dk_42 (dk_at dksX0_ghostsBy_0 19 rfl rfl)
theorem dX0_ghostsBy_20 : decode cX0_ghostsBy 20 = .ok (.getfield 17, 3) := dk_180 0 17 (dk_at dksX0_ghostsBy_0 20 rfl rfl)
theorem dX0_ghostsBy_23 : decode cX0_ghostsBy 23 = .ok (.invokevirtual 75, 3) := dk_182 0 75 (dk_at dksX0_ghostsBy_1 0 rfl rfl)
theorem dX0_ghostsBy_26 : decode cX0_ghostsBy 26 = .ok (.astore 4, 2) := dk_58 4 (dk_at dksX0_ghostsBy_1 3 rfl rfl)
theorem dX0_ghostsBy_28 : decode cX0_ghostsBy 28 = .ok (.aload 4, 2) := dk_25 4 (dk_at dksX0_ghostsBy_1 5 rfl rfl)
theorem dX0_ghostsBy_30 : decode cX0_ghostsBy 30 = .ok (.getfield 53, 3) := dk_180 0 53 (dk_at dksX0_ghostsBy_1 7 rfl rfl)
theorem dX0_ghostsBy_33 : decode cX0_ghostsBy 33 = .ok (.iload_n 1, 1) := dk_27 (dk_at dksX0_ghostsBy_1 10 rfl rfl)
theorem dX0_ghostsBy_34 : decode cX0_ghostsBy 34 = .ok (.invokeinterface 56 2, 5) := by decide +kernel
theorem dX0_ghostsBy_39 : decode cX0_ghostsBy 39 = .ok (.checkcast 59, 3) := dk_192 0 59 (dk_at dksX0_ghostsBy_1 16 rfl rfl)
theorem dX0_ghostsBy_42 : decode cX0_ghostsBy 42 = .ok (.aload_n 0, 1) := dk_42 (dk_at dksX0_ghostsBy_1 19 rfl rfl)
theorem dX0_ghostsBy_43 : decode cX0_ghostsBy 43 = .ok (.getfield 17, 3) := dk_180 0 17 (dk_at dksX0_ghostsBy_1 20 rfl rfl)
theorem dX0_ghostsBy_46 : decode cX0_ghostsBy 46 = .ok (.getfield 53, 3) := dk_180 0 53 (dk_at dksX0_ghostsBy_2 0 rfl rfl)
theorem dX0_ghostsBy_49 : decode cX0_ghostsBy 49 = .ok (.iload_n 1, 1) := dk_27 (dk_at dksX0_ghostsBy_2 3 rfl rfl)
theorem dX0_ghostsBy_50 : decode cX0_ghostsBy 50 = .ok (.invokeinterface 56 2, 5) := by decide +kernel
theorem dX0_ghostsBy_55 : decode cX0_ghostsBy 55 = .ok (.checkcast 59, 3) := dk_192 0 59 (dk_at dksX0_ghostsBy_2 9 rfl rfl)
theorem dX0_ghostsBy_58 : decode cX0_ghostsBy 58 = .ok (.invokevirtual 61, 3) := dk_182 0 61 (dk_at dksX0_ghostsBy_2 12 rfl rfl)
theorem dX0_ghostsBy_61 : decode cX0_ghostsBy 61 = .ok (.ifCond .eq 8, 3) := dk_153 0 8 (dk_at dksX0_ghostsBy_2 15 rfl rfl)
theorem dX0_ghostsBy_64 : decode cX0_ghostsBy 64 = .ok (.bipush (-5), 2) := dk_16 251 (dk_at dksX0_ghostsBy_2 18 rfl rfl)
theorem dX0_ghostsBy_66 : decode cX0_ghostsBy 66 = .ok (.goto 4, 3) := dk_167 0 4 (dk_at dksX0_ghostsBy_2 20 rfl rfl)
theorem dX0_ghostsBy_69 : decode cX0_ghostsBy 69 = .ok (.iconst 0, 1) := dk_3 (dk_at dksX0_ghostsBy_2 23 rfl rfl)
theorem dX0_ghostsBy_70 : decode cX0_ghostsBy 70 = .ok (.putfield 212, 3) := dk_181 0 212 (dk_at dksX0_ghostsBy_3 0 rfl rfl)
theorem dX0_ghostsBy_73 : decode cX0_ghostsBy 73 = .ok (.aload 4, 2) := dk_25 4 (dk_at dksX0_ghostsBy_3 3 rfl rfl)
theorem dX0_ghostsBy_75 : decode cX0_ghostsBy 75 = .ok (.iload_n 1, 1) := dk_27 (dk_at dksX0_ghostsBy_3 5 rfl rfl)
theorem dX0_ghostsBy_76 : decode cX0_ghostsBy 76 = .ok (.invokestatic 301, 3) := dk_184 1 45 (dk_at dksX0_ghostsBy_3 6 rfl rfl)
theorem dX0_ghostsBy_79 : decode cX0_ghostsBy 79 = .ok (.lstore 5, 2) := dk_55 5 (dk_at dksX0_ghostsBy_3 9 rfl rfl)
theorem dX0_ghostsBy_81 : decode cX0_ghostsBy 81 = .ok (.lload_n 2, 1) := dk_32 (dk_at dksX0_ghostsBy_3 11 rfl rfl)
theorem dX0_ghostsBy_82 : decode cX0_ghostsBy 82 = .ok (.lload 5, 2) := dk_22 5 (dk_at dksX0_ghostsBy_3 12 rfl rfl)
theorem dX0_ghostsBy_84 : decode cX0_ghostsBy 84 = .ok (.ldc2_w 305, 3) := dk_20 1 49 (dk_at dksX0_ghostsBy_3 14 rfl rfl)
theorem dX0_ghostsBy_87 : decode cX0_ghostsBy 87 = .ok (.lxor, 1) := dk_131 (dk_at dksX0_ghostsBy_3 17 rfl rfl)
theorem dX0_ghostsBy_88 : decode cX0_ghostsBy 88 = .ok (.land, 1) := dk_127 (dk_at dksX0_ghostsBy_3 18 rfl rfl)
theorem dX0_ghostsBy_89 : decode cX0_ghostsBy 89 = .ok (.invokestatic 307, 3) := dk_184 1 51 (dk_at dksX0_ghostsBy_3 19 rfl rfl)
theorem dX0_ghostsBy_92 : decode cX0_ghostsBy 92 = .ok (.lload 5, 2) := dk_22 5 (dk_at dksX0_ghostsBy_3 22 rfl rfl)
theorem dX0_ghostsBy_94 : decode cX0_ghostsBy 94 = .ok (.lload_n 2, 1) := dk_32 (dk_at dksX0_ghostsBy_4 0 rfl rfl)
theorem dX0_ghostsBy_95 : decode cX0_ghostsBy 95 = .ok (.ldc2_w 305, 3) := dk_20 1 49 (dk_at dksX0_ghostsBy_4 1 rfl rfl)
theorem dX0_ghostsBy_98 : decode cX0_ghostsBy 98 = .ok (.lxor, 1) := dk_131 (dk_at dksX0_ghostsBy_4 4 rfl rfl)
theorem dX0_ghostsBy_99 : decode cX0_ghostsBy 99 = .ok (.land, 1) := dk_127 (dk_at dksX0_ghostsBy_4 5 rfl rfl)
theorem dX0_ghostsBy_100 : decode cX0_ghostsBy 100 = .ok (.invokestatic 307, 3) := dk_184 1 51 (dk_at dksX0_ghostsBy_4 6 rfl rfl)
theorem dX0_ghostsBy_103 : decode cX0_ghostsBy 103 = .ok (.isub, 1) := dk_100 (dk_at dksX0_ghostsBy_4 9 rfl rfl)
theorem dX0_ghostsBy_104 : decode cX0_ghostsBy 104 = .ok (.bipush 100, 2) := dk_16 100 (dk_at dksX0_ghostsBy_4 10 rfl rfl)
theorem dX0_ghostsBy_106 : decode cX0_ghostsBy 106 = .ok (.iadd, 1) := dk_96 (dk_at dksX0_ghostsBy_4 12 rfl rfl)
theorem dX0_ghostsBy_107 : decode cX0_ghostsBy 107 = .ok (.ireturn, 1) := dk_172 (dk_at dksX0_ghostsBy_4 13 rfl rfl)
abbrev cX0_ghosts : ByteArray := prog_1_method_39_code
def yX0_ghosts : MethodName := ⟨RX0, "ghosts", "(LBlanketKeys$State;I)J"⟩
def dkwX0_ghosts_3 : List UInt8 := [32, 173]
abbrev dktX0_ghosts_3 : List UInt8 := dkwX0_ghosts_3 ++ []
def dkwX0_ghosts_2 : List UInt8 := [21, 4, 182, 0, 221, 153, 0, 10, 10, 21, 4, 121, 167, 0, 4, 9, 129, 65, 132, 4, 1, 167, 255, 193]
abbrev dktX0_ghosts_2 : List UInt8 := dkwX0_ghosts_2 ++ dktX0_ghosts_3
def dkwX0_ghosts_1 : List UInt8 := [159, 0, 39, 42, 180, 0, 53, 21, 4, 185, 0, 56, 2, 0, 192, 0, 59, 182, 0, 61, 154, 0, 19, 42]
abbrev dktX0_ghosts_1 : List UInt8 := dkwX0_ghosts_1 ++ dktX0_ghosts_2
def dkwX0_ghosts_0 : List UInt8 := [9, 65, 3, 54, 4, 21, 4, 42, 180, 0, 53, 185, 0, 39, 1, 0, 162, 0, 55, 32, 21, 4, 27]
abbrev dktX0_ghosts_0 : List UInt8 := dkwX0_ghosts_0 ++ dktX0_ghosts_1
theorem dksX0_ghosts_0 : cX0_ghosts.data.toList.drop 0 = dktX0_ghosts_0 := by decide +kernel
theorem dksX0_ghosts_1 : cX0_ghosts.data.toList.drop 23 = dktX0_ghosts_1 := dk_seg dksX0_ghosts_0 23 rfl rfl
theorem dksX0_ghosts_2 : cX0_ghosts.data.toList.drop 47 = dktX0_ghosts_2 := dk_seg dksX0_ghosts_1 24 rfl rfl
theorem dksX0_ghosts_3 : cX0_ghosts.data.toList.drop 71 = dktX0_ghosts_3 := dk_seg dksX0_ghosts_2 24 rfl rfl
theorem dX0_ghosts_0 : decode cX0_ghosts 0 = .ok (.lconst 0, 1) := dk_9 (dk_at dksX0_ghosts_0 0 rfl rfl)
theorem dX0_ghosts_1 : decode cX0_ghosts 1 = .ok (.lstore_n 2, 1) := dk_65 (dk_at dksX0_ghosts_0 1 rfl rfl)
theorem dX0_ghosts_2 : decode cX0_ghosts 2 = .ok (.iconst 0, 1) := dk_3 (dk_at dksX0_ghosts_0 2 rfl rfl)
theorem dX0_ghosts_3 : decode cX0_ghosts 3 = .ok (.istore 4, 2) := dk_54 4 (dk_at dksX0_ghosts_0 3 rfl rfl)
theorem dX0_ghosts_5 : decode cX0_ghosts 5 = .ok (.iload 4, 2) := dk_21 4 (dk_at dksX0_ghosts_0 5 rfl rfl)
theorem dX0_ghosts_7 : decode cX0_ghosts 7 = .ok (.aload_n 0, 1) := dk_42 (dk_at dksX0_ghosts_0 7 rfl rfl)
theorem dX0_ghosts_8 : decode cX0_ghosts 8 = .ok (.getfield 53, 3) := dk_180 0 53 (dk_at dksX0_ghosts_0 8 rfl rfl)
theorem dX0_ghosts_11 : decode cX0_ghosts 11 = .ok (.invokeinterface 39 1, 5) := by decide +kernel
theorem dX0_ghosts_16 : decode cX0_ghosts 16 = .ok (.if_icmp .ge 55, 3) := dk_162 0 55 (dk_at dksX0_ghosts_0 16 rfl rfl)
theorem dX0_ghosts_19 : decode cX0_ghosts 19 = .ok (.lload_n 2, 1) := dk_32 (dk_at dksX0_ghosts_0 19 rfl rfl)
theorem dX0_ghosts_20 : decode cX0_ghosts 20 = .ok (.iload 4, 2) := dk_21 4 (dk_at dksX0_ghosts_0 20 rfl rfl)
theorem dX0_ghosts_22 : decode cX0_ghosts 22 = .ok (.iload_n 1, 1) := dk_27 (dk_at dksX0_ghosts_0 22 rfl rfl)
theorem dX0_ghosts_23 : decode cX0_ghosts 23 = .ok (.if_icmp .eq 39, 3) := dk_159 0 39 (dk_at dksX0_ghosts_1 0 rfl rfl)
theorem dX0_ghosts_26 : decode cX0_ghosts 26 = .ok (.aload_n 0, 1) := dk_42 (dk_at dksX0_ghosts_1 3 rfl rfl)
theorem dX0_ghosts_27 : decode cX0_ghosts 27 = .ok (.getfield 53, 3) := dk_180 0 53 (dk_at dksX0_ghosts_1 4 rfl rfl)
theorem dX0_ghosts_30 : decode cX0_ghosts 30 = .ok (.iload 4, 2) := dk_21 4 (dk_at dksX0_ghosts_1 7 rfl rfl)
theorem dX0_ghosts_32 : decode cX0_ghosts 32 = .ok (.invokeinterface 56 2, 5) := by decide +kernel
theorem dX0_ghosts_37 : decode cX0_ghosts 37 = .ok (.checkcast 59, 3) := dk_192 0 59 (dk_at dksX0_ghosts_1 14 rfl rfl)
theorem dX0_ghosts_40 : decode cX0_ghosts 40 = .ok (.invokevirtual 61, 3) := dk_182 0 61 (dk_at dksX0_ghosts_1 17 rfl rfl)
theorem dX0_ghosts_43 : decode cX0_ghosts 43 = .ok (.ifCond .ne 19, 3) := dk_154 0 19 (dk_at dksX0_ghosts_1 20 rfl rfl)
theorem dX0_ghosts_46 : decode cX0_ghosts 46 = .ok (.aload_n 0, 1) := dk_42 (dk_at dksX0_ghosts_1 23 rfl rfl)
theorem dX0_ghosts_47 : decode cX0_ghosts 47 = .ok (.iload 4, 2) := dk_21 4 (dk_at dksX0_ghosts_2 0 rfl rfl)
theorem dX0_ghosts_49 : decode cX0_ghosts 49 = .ok (.invokevirtual 221, 3) := dk_182 0 221 (dk_at dksX0_ghosts_2 2 rfl rfl)
theorem dX0_ghosts_52 : decode cX0_ghosts 52 = .ok (.ifCond .eq 10, 3) := dk_153 0 10 (dk_at dksX0_ghosts_2 5 rfl rfl)
theorem dX0_ghosts_55 : decode cX0_ghosts 55 = .ok (.lconst 1, 1) := dk_10 (dk_at dksX0_ghosts_2 8 rfl rfl)
theorem dX0_ghosts_56 : decode cX0_ghosts 56 = .ok (.iload 4, 2) := dk_21 4 (dk_at dksX0_ghosts_2 9 rfl rfl)
theorem dX0_ghosts_58 : decode cX0_ghosts 58 = .ok (.lshl, 1) := dk_121 (dk_at dksX0_ghosts_2 11 rfl rfl)
theorem dX0_ghosts_59 : decode cX0_ghosts 59 = .ok (.goto 4, 3) := dk_167 0 4 (dk_at dksX0_ghosts_2 12 rfl rfl)
theorem dX0_ghosts_62 : decode cX0_ghosts 62 = .ok (.lconst 0, 1) := dk_9 (dk_at dksX0_ghosts_2 15 rfl rfl)
theorem dX0_ghosts_63 : decode cX0_ghosts 63 = .ok (.lor, 1) := dk_129 (dk_at dksX0_ghosts_2 16 rfl rfl)
theorem dX0_ghosts_64 : decode cX0_ghosts 64 = .ok (.lstore_n 2, 1) := dk_65 (dk_at dksX0_ghosts_2 17 rfl rfl)
theorem dX0_ghosts_65 : decode cX0_ghosts 65 = .ok (.iinc 4 1, 3) := dk_132 4 1 (dk_at dksX0_ghosts_2 18 rfl rfl)
theorem dX0_ghosts_68 : decode cX0_ghosts 68 = .ok (.goto (-63), 3) := dk_167 255 193 (dk_at dksX0_ghosts_2 21 rfl rfl)
theorem dX0_ghosts_71 : decode cX0_ghosts 71 = .ok (.lload_n 2, 1) := dk_32 (dk_at dksX0_ghosts_3 0 rfl rfl)
theorem dX0_ghosts_72 : decode cX0_ghosts 72 = .ok (.lreturn, 1) := dk_173 (dk_at dksX0_ghosts_3 1 rfl rfl)
abbrev cX0_count : ByteArray := prog_1_method_42_code
def yX0_count : MethodName := ⟨RX0, "count", "(I)I"⟩
def dkwX0_count_8 : List UInt8 := [172, 42, 180, 0, 31, 182, 0, 158, 172, 16, 254, 172]
abbrev dktX0_count_8 : List UInt8 := dkwX0_count_8 ++ []
def dkwX0_count_7 : List UInt8 := [180, 0, 17, 180, 0, 209, 42, 180, 0, 17, 180, 0, 68, 112, 172, 42, 180, 0, 24, 185, 0, 39, 1, 0]
abbrev dktX0_count_7 : List UInt8 := dkwX0_count_7 ++ dktX0_count_8
def dkwX0_count_6 : List UInt8 := [3, 46, 42, 180, 0, 17, 180, 0, 234, 4, 46, 96, 172, 42, 180, 0, 17, 180, 1, 68, 172, 42]
abbrev dktX0_count_6 : List UInt8 := dkwX0_count_6 ++ dktX0_count_7
def dkwX0_count_5 : List UInt8 := [182, 1, 65, 172, 42, 180, 0, 17, 180, 0, 141, 185, 0, 39, 1, 0, 172, 42, 180, 0, 17, 180, 0, 234]
abbrev dktX0_count_5 : List UInt8 := dkwX0_count_5 ++ dktX0_count_6
def dkwX0_count_4 : List UInt8 := [46, 42, 180, 0, 17, 180, 0, 230, 4, 46, 96, 172, 42, 180, 0, 17, 180, 1, 63, 172, 42, 180, 0, 17]
abbrev dktX0_count_4 : List UInt8 := dkwX0_count_4 ++ dktX0_count_5
def dkwX0_count_3 : List UInt8 := [42, 27, 6, 100, 182, 1, 57, 172, 42, 180, 0, 17, 180, 1, 60, 172, 42, 180, 0, 17, 180, 0, 230, 3]
abbrev dktX0_count_3 : List UInt8 := dkwX0_count_3 ++ dktX0_count_4
def dkwX0_count_2 : List UInt8 := [42, 180, 0, 17, 180, 0, 209, 172, 42, 180, 0, 17, 180, 0, 68, 172, 42, 180, 0, 17, 180, 0, 72, 172]
abbrev dktX0_count_2 : List UInt8 := dkwX0_count_2 ++ dktX0_count_3
def dkwX0_count_1 : List UInt8 := [170, 0, 0, 0, 0, 0, 230, 0, 0, 0, 0, 0, 0, 0, 15, 0, 0, 0, 79, 0, 0, 0, 87, 0, 0, 0, 95, 0, 0, 0, 103, 0, 0, 0, 103, 0, 0, 0, 103, 0, 0, 0, 111, 0, 0, 0, 119, 0, 0, 0, 139, 0, 0, 0, 147, 0, 0, 0, 155, 0, 0, 0, 168, 0, 0, 0, 188, 0, 0, 0, 196, 0, 0, 0, 212, 0, 0, 0, 222]
abbrev dktX0_count_1 : List UInt8 := dkwX0_count_1 ++ dktX0_count_2
def dkwX0_count_0 : List UInt8 := [27]
abbrev dktX0_count_0 : List UInt8 := dkwX0_count_0 ++ dktX0_count_1
theorem dksX0_count_0 : cX0_count.data.toList.drop 0 = dktX0_count_0 := by decide +kernel
theorem dksX0_count_1 : cX0_count.data.toList.drop 1 = dktX0_count_1 := dk_seg dksX0_count_0 1 rfl rfl
theorem dksX0_count_2 : cX0_count.data.toList.drop 80 = dktX0_count_2 := dk_seg dksX0_count_1 79 rfl rfl
theorem dksX0_count_3 : cX0_count.data.toList.drop 104 = dktX0_count_3 := dk_seg dksX0_count_2 24 rfl rfl
theorem dksX0_count_4 : cX0_count.data.toList.drop 128 = dktX0_count_4 := dk_seg dksX0_count_3 24 rfl rfl
theorem dksX0_count_5 : cX0_count.data.toList.drop 152 = dktX0_count_5 := dk_seg dksX0_count_4 24 rfl rfl
theorem dksX0_count_6 : cX0_count.data.toList.drop 176 = dktX0_count_6 := dk_seg dksX0_count_5 24 rfl rfl
theorem dksX0_count_7 : cX0_count.data.toList.drop 198 = dktX0_count_7 := dk_seg dksX0_count_6 22 rfl rfl
theorem dksX0_count_8 : cX0_count.data.toList.drop 222 = dktX0_count_8 := dk_seg dksX0_count_7 24 rfl rfl
theorem dX0_count_0 : decode cX0_count 0 = .ok (.iload_n 1, 1) := dk_27 (dk_at dksX0_count_0 0 rfl rfl)
theorem dX0_count_1 : decode cX0_count 1 = .ok (.tableswitch 230 0 15 #[79, 87, 95, 103, 103, 103, 111, 119, 139, 147, 155, 168, 188, 196, 212, 222], 79) := by decide +kernel
theorem dX0_count_80 : decode cX0_count 80 = .ok (.aload_n 0, 1) := dk_42 (dk_at dksX0_count_2 0 rfl rfl)
theorem dX0_count_81 : decode cX0_count 81 = .ok (.getfield 17, 3) := dk_180 0 17 (dk_at dksX0_count_2 1 rfl rfl)
theorem dX0_count_84 : decode cX0_count 84 = .ok (.getfield 209, 3) := dk_180 0 209 (dk_at dksX0_count_2 4 rfl rfl)
theorem dX0_count_87 : decode cX0_count 87 = .ok (.ireturn, 1) := dk_172 (dk_at dksX0_count_2 7 rfl rfl)
theorem dX0_count_88 : decode cX0_count 88 = .ok (.aload_n 0, 1) := dk_42 (dk_at dksX0_count_2 8 rfl rfl)
theorem dX0_count_89 : decode cX0_count 89 = .ok (.getfield 17, 3) := dk_180 0 17 (dk_at dksX0_count_2 9 rfl rfl)
theorem dX0_count_92 : decode cX0_count 92 = .ok (.getfield 68, 3) := dk_180 0 68 (dk_at dksX0_count_2 12 rfl rfl)
theorem dX0_count_95 : decode cX0_count 95 = .ok (.ireturn, 1) := dk_172 (dk_at dksX0_count_2 15 rfl rfl)
theorem dX0_count_96 : decode cX0_count 96 = .ok (.aload_n 0, 1) := dk_42 (dk_at dksX0_count_2 16 rfl rfl)
theorem dX0_count_97 : decode cX0_count 97 = .ok (.getfield 17, 3) := dk_180 0 17 (dk_at dksX0_count_2 17 rfl rfl)
theorem dX0_count_100 : decode cX0_count 100 = .ok (.getfield 72, 3) := dk_180 0 72 (dk_at dksX0_count_2 20 rfl rfl)
theorem dX0_count_103 : decode cX0_count 103 = .ok (.ireturn, 1) := dk_172 (dk_at dksX0_count_2 23 rfl rfl)
theorem dX0_count_104 : decode cX0_count 104 = .ok (.aload_n 0, 1) := dk_42 (dk_at dksX0_count_3 0 rfl rfl)
theorem dX0_count_105 : decode cX0_count 105 = .ok (.iload_n 1, 1) := dk_27 (dk_at dksX0_count_3 1 rfl rfl)
theorem dX0_count_106 : decode cX0_count 106 = .ok (.iconst 3, 1) := dk_6 (dk_at dksX0_count_3 2 rfl rfl)
theorem dX0_count_107 : decode cX0_count 107 = .ok (.isub, 1) := dk_100 (dk_at dksX0_count_3 3 rfl rfl)
theorem dX0_count_108 : decode cX0_count 108 = .ok (.invokevirtual 313, 3) := dk_182 1 57 (dk_at dksX0_count_3 4 rfl rfl)
theorem dX0_count_111 : decode cX0_count 111 = .ok (.ireturn, 1) := dk_172 (dk_at dksX0_count_3 7 rfl rfl)
theorem dX0_count_112 : decode cX0_count 112 = .ok (.aload_n 0, 1) := dk_42 (dk_at dksX0_count_3 8 rfl rfl)
theorem dX0_count_113 : decode cX0_count 113 = .ok (.getfield 17, 3) := dk_180 0 17 (dk_at dksX0_count_3 9 rfl rfl)
theorem dX0_count_116 : decode cX0_count 116 = .ok (.getfield 316, 3) := dk_180 1 60 (dk_at dksX0_count_3 12 rfl rfl)
theorem dX0_count_119 : decode cX0_count 119 = .ok (.ireturn, 1) := dk_172 (dk_at dksX0_count_3 15 rfl rfl)
theorem dX0_count_120 : decode cX0_count 120 = .ok (.aload_n 0, 1) := dk_42 (dk_at dksX0_count_3 16 rfl rfl)
theorem dX0_count_121 : decode cX0_count 121 = .ok (.getfield 17, 3) := dk_180 0 17 (dk_at dksX0_count_3 17 rfl rfl)
theorem dX0_count_124 : decode cX0_count 124 = .ok (.getfield 230, 3) := dk_180 0 230 (dk_at dksX0_count_3 20 rfl rfl)
theorem dX0_count_127 : decode cX0_count 127 = .ok (.iconst 0, 1) := dk_3 (dk_at dksX0_count_3 23 rfl rfl)
theorem dX0_count_128 : decode cX0_count 128 = .ok (.iaload, 1) := dk_46 (dk_at dksX0_count_4 0 rfl rfl)
theorem dX0_count_129 : decode cX0_count 129 = .ok (.aload_n 0, 1) := dk_42 (dk_at dksX0_count_4 1 rfl rfl)
theorem dX0_count_130 : decode cX0_count 130 = .ok (.getfield 17, 3) := dk_180 0 17 (dk_at dksX0_count_4 2 rfl rfl)
theorem dX0_count_133 : decode cX0_count 133 = .ok (.getfield 230, 3) := dk_180 0 230 (dk_at dksX0_count_4 5 rfl rfl)
theorem dX0_count_136 : decode cX0_count 136 = .ok (.iconst 1, 1) := dk_4 (dk_at dksX0_count_4 8 rfl rfl)
theorem dX0_count_137 : decode cX0_count 137 = .ok (.iaload, 1) := dk_46 (dk_at dksX0_count_4 9 rfl rfl)
theorem dX0_count_138 : decode cX0_count 138 = .ok (.iadd, 1) := dk_96 (dk_at dksX0_count_4 10 rfl rfl)
theorem dX0_count_139 : decode cX0_count 139 = .ok (.ireturn, 1) := dk_172 (dk_at dksX0_count_4 11 rfl rfl)
theorem dX0_count_140 : decode cX0_count 140 = .ok (.aload_n 0, 1) := dk_42 (dk_at dksX0_count_4 12 rfl rfl)
theorem dX0_count_141 : decode cX0_count 141 = .ok (.getfield 17, 3) := dk_180 0 17 (dk_at dksX0_count_4 13 rfl rfl)
theorem dX0_count_144 : decode cX0_count 144 = .ok (.getfield 319, 3) := dk_180 1 63 (dk_at dksX0_count_4 16 rfl rfl)
theorem dX0_count_147 : decode cX0_count 147 = .ok (.ireturn, 1) := dk_172 (dk_at dksX0_count_4 19 rfl rfl)
theorem dX0_count_148 : decode cX0_count 148 = .ok (.aload_n 0, 1) := dk_42 (dk_at dksX0_count_4 20 rfl rfl)
theorem dX0_count_149 : decode cX0_count 149 = .ok (.getfield 17, 3) := dk_180 0 17 (dk_at dksX0_count_4 21 rfl rfl)
theorem dX0_count_152 : decode cX0_count 152 = .ok (.invokevirtual 321, 3) := dk_182 1 65 (dk_at dksX0_count_5 0 rfl rfl)
theorem dX0_count_155 : decode cX0_count 155 = .ok (.ireturn, 1) := dk_172 (dk_at dksX0_count_5 3 rfl rfl)
theorem dX0_count_156 : decode cX0_count 156 = .ok (.aload_n 0, 1) := dk_42 (dk_at dksX0_count_5 4 rfl rfl)
theorem dX0_count_157 : decode cX0_count 157 = .ok (.getfield 17, 3) := dk_180 0 17 (dk_at dksX0_count_5 5 rfl rfl)
theorem dX0_count_160 : decode cX0_count 160 = .ok (.getfield 141, 3) := dk_180 0 141 (dk_at dksX0_count_5 8 rfl rfl)
theorem dX0_count_163 : decode cX0_count 163 = .ok (.invokeinterface 39 1, 5) := by decide +kernel
theorem dX0_count_168 : decode cX0_count 168 = .ok (.ireturn, 1) := dk_172 (dk_at dksX0_count_5 16 rfl rfl)
theorem dX0_count_169 : decode cX0_count 169 = .ok (.aload_n 0, 1) := dk_42 (dk_at dksX0_count_5 17 rfl rfl)
theorem dX0_count_170 : decode cX0_count 170 = .ok (.getfield 17, 3) := dk_180 0 17 (dk_at dksX0_count_5 18 rfl rfl)
theorem dX0_count_173 : decode cX0_count 173 = .ok (.getfield 234, 3) := dk_180 0 234 (dk_at dksX0_count_5 21 rfl rfl)
theorem dX0_count_176 : decode cX0_count 176 = .ok (.iconst 0, 1) := dk_3 (dk_at dksX0_count_6 0 rfl rfl)
theorem dX0_count_177 : decode cX0_count 177 = .ok (.iaload, 1) := dk_46 (dk_at dksX0_count_6 1 rfl rfl)
theorem dX0_count_178 : decode cX0_count 178 = .ok (.aload_n 0, 1) := dk_42 (dk_at dksX0_count_6 2 rfl rfl)
theorem dX0_count_179 : decode cX0_count 179 = .ok (.getfield 17, 3) := dk_180 0 17 (dk_at dksX0_count_6 3 rfl rfl)
theorem dX0_count_182 : decode cX0_count 182 = .ok (.getfield 234, 3) := dk_180 0 234 (dk_at dksX0_count_6 6 rfl rfl)
theorem dX0_count_185 : decode cX0_count 185 = .ok (.iconst 1, 1) := dk_4 (dk_at dksX0_count_6 9 rfl rfl)
theorem dX0_count_186 : decode cX0_count 186 = .ok (.iaload, 1) := dk_46 (dk_at dksX0_count_6 10 rfl rfl)
theorem dX0_count_187 : decode cX0_count 187 = .ok (.iadd, 1) := dk_96 (dk_at dksX0_count_6 11 rfl rfl)
theorem dX0_count_188 : decode cX0_count 188 = .ok (.ireturn, 1) := dk_172 (dk_at dksX0_count_6 12 rfl rfl)
theorem dX0_count_189 : decode cX0_count 189 = .ok (.aload_n 0, 1) := dk_42 (dk_at dksX0_count_6 13 rfl rfl)
theorem dX0_count_190 : decode cX0_count 190 = .ok (.getfield 17, 3) := dk_180 0 17 (dk_at dksX0_count_6 14 rfl rfl)
theorem dX0_count_193 : decode cX0_count 193 = .ok (.getfield 324, 3) := dk_180 1 68 (dk_at dksX0_count_6 17 rfl rfl)
theorem dX0_count_196 : decode cX0_count 196 = .ok (.ireturn, 1) := dk_172 (dk_at dksX0_count_6 20 rfl rfl)
theorem dX0_count_197 : decode cX0_count 197 = .ok (.aload_n 0, 1) := dk_42 (dk_at dksX0_count_6 21 rfl rfl)
theorem dX0_count_198 : decode cX0_count 198 = .ok (.getfield 17, 3) := dk_180 0 17 (dk_at dksX0_count_7 0 rfl rfl)
theorem dX0_count_201 : decode cX0_count 201 = .ok (.getfield 209, 3) := dk_180 0 209 (dk_at dksX0_count_7 3 rfl rfl)
theorem dX0_count_204 : decode cX0_count 204 = .ok (.aload_n 0, 1) := dk_42 (dk_at dksX0_count_7 6 rfl rfl)
theorem dX0_count_205 : decode cX0_count 205 = .ok (.getfield 17, 3) := dk_180 0 17 (dk_at dksX0_count_7 7 rfl rfl)
theorem dX0_count_208 : decode cX0_count 208 = .ok (.getfield 68, 3) := dk_180 0 68 (dk_at dksX0_count_7 10 rfl rfl)
theorem dX0_count_211 : decode cX0_count 211 = .ok (.irem, 1) := dk_112 (dk_at dksX0_count_7 13 rfl rfl)
theorem dX0_count_212 : decode cX0_count 212 = .ok (.ireturn, 1) := dk_172 (dk_at dksX0_count_7 14 rfl rfl)
theorem dX0_count_213 : decode cX0_count 213 = .ok (.aload_n 0, 1) := dk_42 (dk_at dksX0_count_7 15 rfl rfl)
theorem dX0_count_214 : decode cX0_count 214 = .ok (.getfield 24, 3) := dk_180 0 24 (dk_at dksX0_count_7 16 rfl rfl)
theorem dX0_count_217 : decode cX0_count 217 = .ok (.invokeinterface 39 1, 5) := by decide +kernel
theorem dX0_count_222 : decode cX0_count 222 = .ok (.ireturn, 1) := dk_172 (dk_at dksX0_count_8 0 rfl rfl)
theorem dX0_count_223 : decode cX0_count 223 = .ok (.aload_n 0, 1) := dk_42 (dk_at dksX0_count_8 1 rfl rfl)
theorem dX0_count_224 : decode cX0_count 224 = .ok (.getfield 31, 3) := dk_180 0 31 (dk_at dksX0_count_8 2 rfl rfl)
theorem dX0_count_227 : decode cX0_count 227 = .ok (.invokevirtual 158, 3) := dk_182 0 158 (dk_at dksX0_count_8 5 rfl rfl)
theorem dX0_count_230 : decode cX0_count 230 = .ok (.ireturn, 1) := dk_172 (dk_at dksX0_count_8 8 rfl rfl)
theorem dX0_count_231 : decode cX0_count 231 = .ok (.bipush (-2), 2) := dk_16 254 (dk_at dksX0_count_8 9 rfl rfl)
theorem dX0_count_233 : decode cX0_count 233 = .ok (.ireturn, 1) := dk_172 (dk_at dksX0_count_8 11 rfl rfl)
abbrev cX0_keysThat : ByteArray := prog_1_method_41_code
def yX0_keysThat : MethodName := ⟨RX0, "keysThat", "(I)I"⟩
def dkwX0_keysThat_3 : List UInt8 := [180, 0, 218, 153, 0, 7, 4, 167, 0, 4, 3, 96, 61, 132, 3, 1, 167, 255, 172, 28, 172]
abbrev dktX0_keysThat_3 : List UInt8 := dkwX0_keysThat_3 ++ []
def dkwX0_keysThat_2 : List UInt8 := [153, 0, 34, 167, 0, 27, 27, 4, 160, 0, 14, 25, 4, 182, 0, 65, 153, 0, 18, 167, 0, 11, 25, 4]
abbrev dktX0_keysThat_2 : List UInt8 := dkwX0_keysThat_2 ++ dktX0_keysThat_3
def dkwX0_keysThat_1 : List UInt8 := [180, 0, 53, 29, 185, 0, 56, 2, 0, 192, 0, 59, 58, 4, 28, 27, 154, 0, 14, 25, 4, 182, 0, 61]
abbrev dktX0_keysThat_1 : List UInt8 := dkwX0_keysThat_1 ++ dktX0_keysThat_2
def dkwX0_keysThat_0 : List UInt8 := [3, 61, 3, 62, 29, 42, 180, 0, 17, 180, 0, 53, 185, 0, 39, 1, 0, 162, 0, 74, 42, 180, 0, 17]
abbrev dktX0_keysThat_0 : List UInt8 := dkwX0_keysThat_0 ++ dktX0_keysThat_1
theorem dksX0_keysThat_0 : cX0_keysThat.data.toList.drop 0 = dktX0_keysThat_0 := by decide +kernel
theorem dksX0_keysThat_1 : cX0_keysThat.data.toList.drop 24 = dktX0_keysThat_1 := dk_seg dksX0_keysThat_0 24 rfl rfl
theorem dksX0_keysThat_2 : cX0_keysThat.data.toList.drop 48 = dktX0_keysThat_2 := dk_seg dksX0_keysThat_1 24 rfl rfl
theorem dksX0_keysThat_3 : cX0_keysThat.data.toList.drop 72 = dktX0_keysThat_3 := dk_seg dksX0_keysThat_2 24 rfl rfl
theorem dX0_keysThat_0 : decode cX0_keysThat 0 = .ok (.iconst 0, 1) := dk_3 (dk_at dksX0_keysThat_0 0 rfl rfl)
theorem dX0_keysThat_1 : decode cX0_keysThat 1 = .ok (.istore_n 2, 1) := dk_61 (dk_at dksX0_keysThat_0 1 rfl rfl)
theorem dX0_keysThat_2 : decode cX0_keysThat 2 = .ok (.iconst 0, 1) := dk_3 (dk_at dksX0_keysThat_0 2 rfl rfl)
theorem dX0_keysThat_3 : decode cX0_keysThat 3 = .ok (.istore_n 3, 1) := dk_62 (dk_at dksX0_keysThat_0 3 rfl rfl)
theorem dX0_keysThat_4 : decode cX0_keysThat 4 = .ok (.iload_n 3, 1) := dk_29 (dk_at dksX0_keysThat_0 4 rfl rfl)
theorem dX0_keysThat_5 : decode cX0_keysThat 5 = .ok (.aload_n 0, 1) := dk_42 (dk_at dksX0_keysThat_0 5 rfl rfl)
theorem dX0_keysThat_6 : decode cX0_keysThat 6 = .ok (.getfield 17, 3) := dk_180 0 17 (dk_at dksX0_keysThat_0 6 rfl rfl)
theorem dX0_keysThat_9 : decode cX0_keysThat 9 = .ok (.getfield 53, 3) := dk_180 0 53 (dk_at dksX0_keysThat_0 9 rfl rfl)
theorem dX0_keysThat_12 : decode cX0_keysThat 12 = .ok (.invokeinterface 39 1, 5) := by decide +kernel
theorem dX0_keysThat_17 : decode cX0_keysThat 17 = .ok (.if_icmp .ge 74, 3) := dk_162 0 74 (dk_at dksX0_keysThat_0 17 rfl rfl)
theorem dX0_keysThat_20 : decode cX0_keysThat 20 = .ok (.aload_n 0, 1) := dk_42 (dk_at dksX0_keysThat_0 20 rfl rfl)
theorem dX0_keysThat_21 : decode cX0_keysThat 21 = .ok (.getfield 17, 3) := dk_180 0 17 (dk_at dksX0_keysThat_0 21 rfl rfl)
theorem dX0_keysThat_24 : decode cX0_keysThat 24 = .ok (.getfield 53, 3) := dk_180 0 53 (dk_at dksX0_keysThat_1 0 rfl rfl)
theorem dX0_keysThat_27 : decode cX0_keysThat 27 = .ok (.iload_n 3, 1) := dk_29 (dk_at dksX0_keysThat_1 3 rfl rfl)
theorem dX0_keysThat_28 : decode cX0_keysThat 28 = .ok (.invokeinterface 56 2, 5) := by decide +kernel
theorem dX0_keysThat_33 : decode cX0_keysThat 33 = .ok (.checkcast 59, 3) := dk_192 0 59 (dk_at dksX0_keysThat_1 9 rfl rfl)
theorem dX0_keysThat_36 : decode cX0_keysThat 36 = .ok (.astore 4, 2) := dk_58 4 (dk_at dksX0_keysThat_1 12 rfl rfl)
theorem dX0_keysThat_38 : decode cX0_keysThat 38 = .ok (.iload_n 2, 1) := dk_28 (dk_at dksX0_keysThat_1 14 rfl rfl)
theorem dX0_keysThat_39 : decode cX0_keysThat 39 = .ok (.iload_n 1, 1) := dk_27 (dk_at dksX0_keysThat_1 15 rfl rfl)
theorem dX0_keysThat_40 : decode cX0_keysThat 40 = .ok (.ifCond .ne 14, 3) := dk_154 0 14 (dk_at dksX0_keysThat_1 16 rfl rfl)
theorem dX0_keysThat_43 : decode cX0_keysThat 43 = .ok (.aload 4, 2) := dk_25 4 (dk_at dksX0_keysThat_1 19 rfl rfl)
theorem dX0_keysThat_45 : decode cX0_keysThat 45 = .ok (.invokevirtual 61, 3) := dk_182 0 61 (dk_at dksX0_keysThat_1 21 rfl rfl)
theorem dX0_keysThat_48 : decode cX0_keysThat 48 = .ok (.ifCond .eq 34, 3) := dk_153 0 34 (dk_at dksX0_keysThat_2 0 rfl rfl)
theorem dX0_keysThat_51 : decode cX0_keysThat 51 = .ok (.goto 27, 3) := dk_167 0 27 (dk_at dksX0_keysThat_2 3 rfl rfl)
theorem dX0_keysThat_54 : decode cX0_keysThat 54 = .ok (.iload_n 1, 1) := dk_27 (dk_at dksX0_keysThat_2 6 rfl rfl)
theorem dX0_keysThat_55 : decode cX0_keysThat 55 = .ok (.iconst 1, 1) := dk_4 (dk_at dksX0_keysThat_2 7 rfl rfl)
theorem dX0_keysThat_56 : decode cX0_keysThat 56 = .ok (.if_icmp .ne 14, 3) := dk_160 0 14 (dk_at dksX0_keysThat_2 8 rfl rfl)
theorem dX0_keysThat_59 : decode cX0_keysThat 59 = .ok (.aload 4, 2) := dk_25 4 (dk_at dksX0_keysThat_2 11 rfl rfl)
theorem dX0_keysThat_61 : decode cX0_keysThat 61 = .ok (.invokevirtual 65, 3) := dk_182 0 65 (dk_at dksX0_keysThat_2 13 rfl rfl)
theorem dX0_keysThat_64 : decode cX0_keysThat 64 = .ok (.ifCond .eq 18, 3) := dk_153 0 18 (dk_at dksX0_keysThat_2 16 rfl rfl)
theorem dX0_keysThat_67 : decode cX0_keysThat 67 = .ok (.goto 11, 3) := dk_167 0 11 (dk_at dksX0_keysThat_2 19 rfl rfl)
theorem dX0_keysThat_70 : decode cX0_keysThat 70 = .ok (.aload 4, 2) := dk_25 4 (dk_at dksX0_keysThat_2 22 rfl rfl)
theorem dX0_keysThat_72 : decode cX0_keysThat 72 = .ok (.getfield 218, 3) := dk_180 0 218 (dk_at dksX0_keysThat_3 0 rfl rfl)
theorem dX0_keysThat_75 : decode cX0_keysThat 75 = .ok (.ifCond .eq 7, 3) := dk_153 0 7 (dk_at dksX0_keysThat_3 3 rfl rfl)
theorem dX0_keysThat_78 : decode cX0_keysThat 78 = .ok (.iconst 1, 1) := dk_4 (dk_at dksX0_keysThat_3 6 rfl rfl)
theorem dX0_keysThat_79 : decode cX0_keysThat 79 = .ok (.goto 4, 3) := dk_167 0 4 (dk_at dksX0_keysThat_3 7 rfl rfl)
theorem dX0_keysThat_82 : decode cX0_keysThat 82 = .ok (.iconst 0, 1) := dk_3 (dk_at dksX0_keysThat_3 10 rfl rfl)
theorem dX0_keysThat_83 : decode cX0_keysThat 83 = .ok (.iadd, 1) := dk_96 (dk_at dksX0_keysThat_3 11 rfl rfl)
theorem dX0_keysThat_84 : decode cX0_keysThat 84 = .ok (.istore_n 2, 1) := dk_61 (dk_at dksX0_keysThat_3 12 rfl rfl)
theorem dX0_keysThat_85 : decode cX0_keysThat 85 = .ok (.iinc 3 1, 3) := dk_132 3 1 (dk_at dksX0_keysThat_3 13 rfl rfl)
theorem dX0_keysThat_88 : decode cX0_keysThat 88 = .ok (.goto (-84), 3) := dk_167 255 172 (dk_at dksX0_keysThat_3 16 rfl rfl)
theorem dX0_keysThat_91 : decode cX0_keysThat 91 = .ok (.iload_n 2, 1) := dk_28 (dk_at dksX0_keysThat_3 19 rfl rfl)
theorem dX0_keysThat_92 : decode cX0_keysThat 92 = .ok (.ireturn, 1) := dk_172 (dk_at dksX0_keysThat_3 20 rfl rfl)
theorem q57 : (Jvm.Cond.initialized "BlanketKeys") ∈ lw_all := lw_g (lw_at lw_m1 1 rfl) rfl
theorem q89 : (Jvm.Cond.instantiable "BlanketKeys" (4 : Nat)) ∈ lw_all := lw_g (lw_at lw_m1 33 rfl) rfl
theorem q91 : (Jvm.Cond.instanceMethod ({ cls := "BlanketKeys", name := "<init>", desc := "()V" } : Jvm.MethodName)) ∈ lw_all := lw_g (lw_at lw_m1 35 rfl) rfl
theorem q92 : (Jvm.Cond.code ({ cls := "BlanketKeys", name := "<init>", desc := "()V" } : Jvm.MethodName) prog_1_method_6_code (1 : Nat) (Option.none : Option Jvm.ClassFile.FieldType)) ∈ lw_all := lw_g (lw_at lw_m1 36 rfl) rfl
theorem q93 : (Jvm.Cond.methodLink "BlanketKeys" (8 : Nat) ({ cls := "java/lang/Object", name := "<init>", desc := "()V" } : Jvm.MethodName)) ∈ lw_all := lw_g (lw_at lw_m1 37 rfl) rfl
theorem q96 : (Jvm.Cond.classLink "BlanketKeys" (14 : Nat) "BlanketKeys$State") ∈ lw_all := lw_g (lw_at lw_m1 40 rfl) rfl
theorem q98 : (Jvm.Cond.methodLink "BlanketKeys" (16 : Nat) ({ cls := "BlanketKeys$State", name := "<init>", desc := "()V" } : Jvm.MethodName)) ∈ lw_all := lw_g (lw_at lw_m1 42 rfl) rfl
theorem q154 : (Jvm.Cond.fieldLinkNest "BlanketKeys" (249 : Nat) "BlanketKeys$Style" "dwell" "F" "BlanketKeys") ∈ lw_tbl := lw_at lw_m1 98 rfl
theorem q156 : (Jvm.Cond.fieldLinkNest "BlanketKeys" (253 : Nat) "BlanketKeys$Style" "gap" "F" "BlanketKeys") ∈ lw_tbl := lw_at lw_m1 100 rfl
theorem q158 : (Jvm.Cond.fieldLinkNest "BlanketKeys" (244 : Nat) "BlanketKeys$Style" "last" "I" "BlanketKeys") ∈ lw_tbl := lw_at lw_m1 102 rfl
theorem q211 : (Jvm.Cond.selects "BlanketKeys" ({ cls := "java/lang/Object", name := "getClass", desc := "()Ljava/lang/Class;" } : Jvm.MethodName) ({ cls := "java/lang/Object", name := "getClass", desc := "()Ljava/lang/Class;" } : Jvm.MethodName)) ∈ lw_all := lw_g (lw_at lw_m1 155 rfl) rfl
theorem q240 : (Jvm.Cond.fieldLinkNest "BlanketKeys" (53 : Nat) "BlanketKeys$State" "keys" "Ljava/util/List;" "BlanketKeys") ∈ lw_tbl := lw_at lw_m1 184 rfl
theorem q242 : (Jvm.Cond.fieldLinkNest "BlanketKeys" (141 : Nat) "BlanketKeys$State" "disputes" "Ljava/util/List;" "BlanketKeys") ∈ lw_tbl := lw_at lw_m1 186 rfl
theorem q244 : (Jvm.Cond.fieldLinkNest "BlanketKeys" (279 : Nat) "BlanketKeys$State" "strokes" "LBlanketKeys$Latest;" "BlanketKeys") ∈ lw_tbl := lw_at lw_m1 188 rfl
theorem q246 : (Jvm.Cond.fieldLinkNest "BlanketKeys" (265 : Nat) "BlanketKeys$State" "typed" "Ljava/util/List;" "BlanketKeys") ∈ lw_tbl := lw_at lw_m1 190 rfl
theorem q248 : (Jvm.Cond.fieldLinkNest "BlanketKeys" (237 : Nat) "BlanketKeys$State" "signs" "[I" "BlanketKeys") ∈ lw_tbl := lw_at lw_m1 192 rfl
theorem q250 : (Jvm.Cond.fieldLinkNest "BlanketKeys" (230 : Nat) "BlanketKeys$State" "credited" "[I" "BlanketKeys") ∈ lw_tbl := lw_at lw_m1 194 rfl
theorem q252 : (Jvm.Cond.fieldLinkNest "BlanketKeys" (234 : Nat) "BlanketKeys$State" "rightly" "[I" "BlanketKeys") ∈ lw_tbl := lw_at lw_m1 196 rfl
theorem q254 : (Jvm.Cond.fieldLinkNest "BlanketKeys" (104 : Nat) "BlanketKeys$State" "borrows" "[Z" "BlanketKeys") ∈ lw_tbl := lw_at lw_m1 198 rfl
theorem q256 : (Jvm.Cond.fieldLinkNest "BlanketKeys" (240 : Nat) "BlanketKeys$State" "styles" "[LBlanketKeys$Style;" "BlanketKeys") ∈ lw_tbl := lw_at lw_m1 200 rfl
theorem q258 : (Jvm.Cond.fieldLinkNest "BlanketKeys" (119 : Nat) "BlanketKeys$State" "settings" "[F" "BlanketKeys") ∈ lw_tbl := lw_at lw_m1 202 rfl
theorem q260 : (Jvm.Cond.fieldLinkNest "BlanketKeys" (68 : Nat) "BlanketKeys$State" "rows" "I" "BlanketKeys") ∈ lw_tbl := lw_at lw_m1 204 rfl
theorem q262 : (Jvm.Cond.fieldLinkNest "BlanketKeys" (72 : Nat) "BlanketKeys$State" "columns" "I" "BlanketKeys") ∈ lw_tbl := lw_at lw_m1 206 rfl
theorem q264 : (Jvm.Cond.fieldLinkNest "BlanketKeys" (209 : Nat) "BlanketKeys$State" "tick" "I" "BlanketKeys") ∈ lw_tbl := lw_at lw_m1 208 rfl
theorem q266 : (Jvm.Cond.fieldLinkNest "BlanketKeys" (316 : Nat) "BlanketKeys$State" "ended" "I" "BlanketKeys") ∈ lw_tbl := lw_at lw_m1 210 rfl
theorem q268 : (Jvm.Cond.fieldLinkNest "BlanketKeys" (319 : Nat) "BlanketKeys$State" "ghosts" "I" "BlanketKeys") ∈ lw_tbl := lw_at lw_m1 212 rfl
theorem q270 : (Jvm.Cond.fieldLinkNest "BlanketKeys" (324 : Nat) "BlanketKeys$State" "trueGhosts" "I" "BlanketKeys") ∈ lw_tbl := lw_at lw_m1 214 rfl
theorem q305 : (Jvm.Cond.classLink "BlanketKeys" (21 : Nat) "java/util/ArrayList") ∈ lw_all := lw_g (lw_at lw_m2 9 rfl) rfl
theorem q306 : (Jvm.Cond.methodLink "BlanketKeys" (23 : Nat) ({ cls := "java/util/ArrayList", name := "<init>", desc := "()V" } : Jvm.MethodName)) ∈ lw_all := lw_g (lw_at lw_m2 10 rfl) rfl
theorem q307 : (Jvm.Cond.classLink "BlanketKeys" (28 : Nat) "java/lang/StringBuilder") ∈ lw_all := lw_g (lw_at lw_m2 11 rfl) rfl
theorem q309 : (Jvm.Cond.methodLink "BlanketKeys" (30 : Nat) ({ cls := "java/lang/StringBuilder", name := "<init>", desc := "()V" } : Jvm.MethodName)) ∈ lw_all := lw_g (lw_at lw_m2 13 rfl) rfl
theorem q339 : (Jvm.Cond.methodLink "BlanketKeys" (35 : Nat) ({ cls := "BlanketKeys$State", name := "lay", desc := "(II)V" } : Jvm.MethodName)) ∈ lw_all := lw_g (lw_at lw_m2 43 rfl) rfl
theorem q359 : (Jvm.Cond.fieldLinkNest "BlanketKeys" (91 : Nat) "BlanketKeys$Key" "sign" "C" "BlanketKeys") ∈ lw_tbl := lw_at lw_m2 63 rfl
theorem q363 : (Jvm.Cond.fieldLinkNest "BlanketKeys" (95 : Nat) "BlanketKeys$Key" "shiftOf" "I" "BlanketKeys") ∈ lw_tbl := lw_at lw_m2 67 rfl
theorem q366 : (Jvm.Cond.fieldLinkNest "BlanketKeys" (212 : Nat) "BlanketKeys$Key" "holder" "I" "BlanketKeys") ∈ lw_tbl := lw_at lw_m2 70 rfl
theorem q369 : (Jvm.Cond.fieldLinkNest "BlanketKeys" (215 : Nat) "BlanketKeys$Key" "since" "I" "BlanketKeys") ∈ lw_tbl := lw_at lw_m2 73 rfl
theorem q372 : (Jvm.Cond.fieldLinkNest "BlanketKeys" (218 : Nat) "BlanketKeys$Key" "isDoubtful" "Z" "BlanketKeys") ∈ lw_tbl := lw_at lw_m2 76 rfl
theorem q392 : (Jvm.Cond.fieldLink "BlanketKeys" (17 : Nat) "BlanketKeys" "state" "LBlanketKeys$State;") ∈ lw_all := lw_g (lw_at lw_m2 96 rfl) rfl
theorem q393 : (Jvm.Cond.fieldLink "BlanketKeys" (206 : Nat) "BlanketKeys" "snapshot" "LBlanketKeys$State;") ∈ lw_all := lw_g (lw_at lw_m2 97 rfl) rfl
theorem q394 : (Jvm.Cond.fieldLink "BlanketKeys" (24 : Nat) "BlanketKeys" "history" "Ljava/util/List;") ∈ lw_all := lw_g (lw_at lw_m2 98 rfl) rfl
theorem q395 : (Jvm.Cond.fieldLink "BlanketKeys" (31 : Nat) "BlanketKeys" "text" "Ljava/lang/StringBuilder;") ∈ lw_all := lw_g (lw_at lw_m2 99 rfl) rfl
theorem q396 : (Jvm.Cond.lays "BlanketKeys" "BlanketKeys" "state" "LBlanketKeys$State;") ∈ lw_all := lw_g (lw_at lw_m2 100 rfl) rfl
theorem q397 : (Jvm.Cond.soleField "BlanketKeys" "state") ∈ lw_all := lw_g (lw_at lw_m2 101 rfl) rfl
theorem q398 : (Jvm.Cond.lays "BlanketKeys" "BlanketKeys" "snapshot" "LBlanketKeys$State;") ∈ lw_all := lw_g (lw_at lw_m2 102 rfl) rfl
theorem q399 : (Jvm.Cond.soleField "BlanketKeys" "snapshot") ∈ lw_all := lw_g (lw_at lw_m2 103 rfl) rfl
theorem q400 : (Jvm.Cond.laysFinal "BlanketKeys" "BlanketKeys" "history" "Ljava/util/List;") ∈ lw_all := lw_g (lw_at lw_m2 104 rfl) rfl
theorem q401 : (Jvm.Cond.soleField "BlanketKeys" "history") ∈ lw_all := lw_g (lw_at lw_m2 105 rfl) rfl
theorem q402 : (Jvm.Cond.laysFinal "BlanketKeys" "BlanketKeys" "text" "Ljava/lang/StringBuilder;") ∈ lw_all := lw_g (lw_at lw_m2 106 rfl) rfl
theorem q403 : (Jvm.Cond.soleField "BlanketKeys" "text") ∈ lw_all := lw_g (lw_at lw_m2 107 rfl) rfl
theorem q404 : (Jvm.Cond.superclass "BlanketKeys" "java/lang/Object") ∈ lw_all := lw_g (lw_at lw_m2 108 rfl) rfl
theorem q406 : (Jvm.Cond.instanceMethod ({ cls := "BlanketKeys", name := "build", desc := "(II)I" } : Jvm.MethodName)) ∈ lw_all := lw_g (lw_at lw_m2 110 rfl) rfl
theorem q407 : (Jvm.Cond.selects "BlanketKeys" ({ cls := "BlanketKeys", name := "build", desc := "(II)I" } : Jvm.MethodName) ({ cls := "BlanketKeys", name := "build", desc := "(II)I" } : Jvm.MethodName)) ∈ lw_all := lw_g (lw_at lw_m2 111 rfl) rfl
theorem q408 : (Jvm.Cond.code ({ cls := "BlanketKeys", name := "build", desc := "(II)I" } : Jvm.MethodName) prog_1_method_9_code (4 : Nat) (Option.some Jvm.ClassFile.FieldType.int)) ∈ lw_all := lw_g (lw_at lw_m2 112 rfl) rfl
theorem q409 : (Jvm.Cond.methodLink "BlanketKeys" (3 : Nat) ({ cls := "BlanketKeys", name := "inRange", desc := "(III)Z" } : Jvm.MethodName)) ∈ lw_all := lw_g (lw_at lw_m2 113 rfl) rfl
theorem q410 : (Jvm.Cond.static ({ cls := "BlanketKeys", name := "inRange", desc := "(III)Z" } : Jvm.MethodName)) ∈ lw_all := lw_g (lw_at lw_m2 114 rfl) rfl
theorem q411 : (Jvm.Cond.code ({ cls := "BlanketKeys", name := "inRange", desc := "(III)Z" } : Jvm.MethodName) prog_1_method_1_code (3 : Nat) (Option.some Jvm.ClassFile.FieldType.boolean)) ∈ lw_all := lw_g (lw_at lw_m2 115 rfl) rfl
theorem q412 : (Jvm.Cond.interfaceEntry "BlanketKeys" (39 : Nat)) ∈ lw_tbl := lw_at lw_m2 116 rfl
theorem q413 : (Jvm.Cond.methodLink "BlanketKeys" (39 : Nat) ({ cls := "java/util/List", name := "size", desc := "()I" } : Jvm.MethodName)) ∈ lw_all := lw_g (lw_at lw_m2 117 rfl) rfl
theorem q421 : (Jvm.Cond.interfaceEntry "BlanketKeys" (56 : Nat)) ∈ lw_tbl := lw_at lw_m2 125 rfl
theorem q422 : (Jvm.Cond.methodLink "BlanketKeys" (56 : Nat) ({ cls := "java/util/List", name := "get", desc := "(I)Ljava/lang/Object;" } : Jvm.MethodName)) ∈ lw_all := lw_g (lw_at lw_m2 126 rfl) rfl
theorem q440 : (Jvm.Cond.classLink "BlanketKeys" (59 : Nat) "BlanketKeys$Key") ∈ lw_all := lw_g (lw_at lw_m2 144 rfl) rfl
theorem q441 : (Jvm.Cond.methodLink "BlanketKeys" (61 : Nat) ({ cls := "BlanketKeys$Key", name := "isDown", desc := "()Z" } : Jvm.MethodName)) ∈ lw_all := lw_g (lw_at lw_m2 145 rfl) rfl
theorem q445 : (Jvm.Cond.methodLink "BlanketKeys" (65 : Nat) ({ cls := "BlanketKeys$Key", name := "isSeen", desc := "()Z" } : Jvm.MethodName)) ∈ lw_all := lw_g (lw_at lw_m2 149 rfl) rfl
theorem q449 : (Jvm.Cond.methodLink "BlanketKeys" (75 : Nat) ({ cls := "BlanketKeys$State", name := "copy", desc := "()LBlanketKeys$State;" } : Jvm.MethodName)) ∈ lw_all := lw_g (lw_at lw_m2 153 rfl) rfl
theorem q507 : (Jvm.Cond.methodLink "BlanketKeys" (79 : Nat) ({ cls := "BlanketKeys", name := "record", desc := "(LBlanketKeys$State;)V" } : Jvm.MethodName)) ∈ lw_all := lw_g (lw_at lw_m2 211 rfl) rfl
theorem q508 : (Jvm.Cond.privateMethod ({ cls := "BlanketKeys", name := "record", desc := "(LBlanketKeys$State;)V" } : Jvm.MethodName)) ∈ lw_tbl := lw_at lw_m2 212 rfl
theorem q509 : (Jvm.Cond.instanceMethod ({ cls := "BlanketKeys", name := "record", desc := "(LBlanketKeys$State;)V" } : Jvm.MethodName)) ∈ lw_all := lw_g (lw_at lw_m2 213 rfl) rfl
theorem q510 : (Jvm.Cond.code ({ cls := "BlanketKeys", name := "record", desc := "(LBlanketKeys$State;)V" } : Jvm.MethodName) prog_1_method_7_code (2 : Nat) (Option.none : Option Jvm.ClassFile.FieldType)) ∈ lw_all := lw_g (lw_at lw_m2 214 rfl) rfl
theorem q511 : (Jvm.Cond.interfaceEntry "BlanketKeys" (45 : Nat)) ∈ lw_tbl := lw_at lw_m2 215 rfl
theorem q512 : (Jvm.Cond.methodLink "BlanketKeys" (45 : Nat) ({ cls := "java/util/List", name := "remove", desc := "(I)Ljava/lang/Object;" } : Jvm.MethodName)) ∈ lw_all := lw_g (lw_at lw_m2 216 rfl) rfl
theorem q513 : (Jvm.Cond.interfaceEntry "BlanketKeys" (49 : Nat)) ∈ lw_tbl := lw_at lw_m2 217 rfl
theorem q514 : (Jvm.Cond.methodLink "BlanketKeys" (49 : Nat) ({ cls := "java/util/List", name := "add", desc := "(Ljava/lang/Object;)Z" } : Jvm.MethodName)) ∈ lw_all := lw_g (lw_at lw_m2 218 rfl) rfl
theorem q516 : (Jvm.Cond.instanceMethod ({ cls := "BlanketKeys", name := "setSign", desc := "(IC)I" } : Jvm.MethodName)) ∈ lw_all := lw_g (lw_at lw_m2 220 rfl) rfl
theorem q517 : (Jvm.Cond.selects "BlanketKeys" ({ cls := "BlanketKeys", name := "setSign", desc := "(IC)I" } : Jvm.MethodName) ({ cls := "BlanketKeys", name := "setSign", desc := "(IC)I" } : Jvm.MethodName)) ∈ lw_all := lw_g (lw_at lw_m2 221 rfl) rfl
theorem q518 : (Jvm.Cond.code ({ cls := "BlanketKeys", name := "setSign", desc := "(IC)I" } : Jvm.MethodName) prog_1_method_10_code (5 : Nat) (Option.some Jvm.ClassFile.FieldType.int)) ∈ lw_all := lw_g (lw_at lw_m2 222 rfl) rfl
theorem q519 : (Jvm.Cond.methodLink "BlanketKeys" (83 : Nat) ({ cls := "BlanketKeys", name := "isKey", desc := "(I)Z" } : Jvm.MethodName)) ∈ lw_all := lw_g (lw_at lw_m2 223 rfl) rfl
theorem q520 : (Jvm.Cond.privateMethod ({ cls := "BlanketKeys", name := "isKey", desc := "(I)Z" } : Jvm.MethodName)) ∈ lw_tbl := lw_at lw_m2 224 rfl
theorem q521 : (Jvm.Cond.instanceMethod ({ cls := "BlanketKeys", name := "isKey", desc := "(I)Z" } : Jvm.MethodName)) ∈ lw_all := lw_g (lw_at lw_m2 225 rfl) rfl
theorem q522 : (Jvm.Cond.code ({ cls := "BlanketKeys", name := "isKey", desc := "(I)Z" } : Jvm.MethodName) prog_1_method_8_code (2 : Nat) (Option.some Jvm.ClassFile.FieldType.boolean)) ∈ lw_all := lw_g (lw_at lw_m2 226 rfl) rfl
theorem q523 : (Jvm.Cond.methodLink "BlanketKeys" (87 : Nat) ({ cls := "BlanketKeys", name := "isLetter", desc := "(C)Z" } : Jvm.MethodName)) ∈ lw_all := lw_g (lw_at lw_m2 227 rfl) rfl
theorem q524 : (Jvm.Cond.static ({ cls := "BlanketKeys", name := "isLetter", desc := "(C)Z" } : Jvm.MethodName)) ∈ lw_all := lw_g (lw_at lw_m2 228 rfl) rfl
theorem q525 : (Jvm.Cond.code ({ cls := "BlanketKeys", name := "isLetter", desc := "(C)Z" } : Jvm.MethodName) prog_1_method_3_code (1 : Nat) (Option.some Jvm.ClassFile.FieldType.boolean)) ∈ lw_all := lw_g (lw_at lw_m2 229 rfl) rfl
theorem q527 : (Jvm.Cond.instanceMethod ({ cls := "BlanketKeys", name := "setShift", desc := "(II)I" } : Jvm.MethodName)) ∈ lw_all := lw_g (lw_at lw_m2 231 rfl) rfl
theorem q528 : (Jvm.Cond.selects "BlanketKeys" ({ cls := "BlanketKeys", name := "setShift", desc := "(II)I" } : Jvm.MethodName) ({ cls := "BlanketKeys", name := "setShift", desc := "(II)I" } : Jvm.MethodName)) ∈ lw_all := lw_g (lw_at lw_m2 232 rfl) rfl
theorem q529 : (Jvm.Cond.code ({ cls := "BlanketKeys", name := "setShift", desc := "(II)I" } : Jvm.MethodName) prog_1_method_11_code (5 : Nat) (Option.some Jvm.ClassFile.FieldType.int)) ∈ lw_all := lw_g (lw_at lw_m2 233 rfl) rfl
theorem q530 : (Jvm.Cond.methodLink "BlanketKeys" (98 : Nat) ({ cls := "BlanketKeys", name := "isTypist", desc := "(I)Z" } : Jvm.MethodName)) ∈ lw_all := lw_g (lw_at lw_m2 234 rfl) rfl
theorem q531 : (Jvm.Cond.static ({ cls := "BlanketKeys", name := "isTypist", desc := "(I)Z" } : Jvm.MethodName)) ∈ lw_all := lw_g (lw_at lw_m2 235 rfl) rfl
theorem q532 : (Jvm.Cond.code ({ cls := "BlanketKeys", name := "isTypist", desc := "(I)Z" } : Jvm.MethodName) prog_1_method_2_code (1 : Nat) (Option.some Jvm.ClassFile.FieldType.boolean)) ∈ lw_all := lw_g (lw_at lw_m2 236 rfl) rfl
theorem q533 : (Jvm.Cond.methodLink "BlanketKeys" (101 : Nat) ({ cls := "BlanketKeys$State", name := "shiftOf", desc := "(I)I" } : Jvm.MethodName)) ∈ lw_all := lw_g (lw_at lw_m2 237 rfl) rfl
theorem q538 : (Jvm.Cond.instanceMethod ({ cls := "BlanketKeys", name := "borrow", desc := "(IZ)I" } : Jvm.MethodName)) ∈ lw_all := lw_g (lw_at lw_m3 2 rfl) rfl
theorem q539 : (Jvm.Cond.selects "BlanketKeys" ({ cls := "BlanketKeys", name := "borrow", desc := "(IZ)I" } : Jvm.MethodName) ({ cls := "BlanketKeys", name := "borrow", desc := "(IZ)I" } : Jvm.MethodName)) ∈ lw_all := lw_g (lw_at lw_m3 3 rfl) rfl
theorem q540 : (Jvm.Cond.code ({ cls := "BlanketKeys", name := "borrow", desc := "(IZ)I" } : Jvm.MethodName) prog_1_method_12_code (3 : Nat) (Option.some Jvm.ClassFile.FieldType.int)) ∈ lw_all := lw_g (lw_at lw_m3 4 rfl) rfl
theorem q542 : (Jvm.Cond.instanceMethod ({ cls := "BlanketKeys", name := "set", desc := "(II)I" } : Jvm.MethodName)) ∈ lw_all := lw_g (lw_at lw_m3 6 rfl) rfl
theorem q543 : (Jvm.Cond.selects "BlanketKeys" ({ cls := "BlanketKeys", name := "set", desc := "(II)I" } : Jvm.MethodName) ({ cls := "BlanketKeys", name := "set", desc := "(II)I" } : Jvm.MethodName)) ∈ lw_all := lw_g (lw_at lw_m3 7 rfl) rfl
theorem q544 : (Jvm.Cond.code ({ cls := "BlanketKeys", name := "set", desc := "(II)I" } : Jvm.MethodName) prog_1_method_14_code (6 : Nat) (Option.some Jvm.ClassFile.FieldType.int)) ∈ lw_all := lw_g (lw_at lw_m3 8 rfl) rfl
theorem q545 : (Jvm.Cond.constant "BlanketKeys" (109 : Nat) (2139095040 : Int32)) ∈ lw_all := lw_g (lw_at lw_m3 9 rfl) rfl
theorem q546 : (Jvm.Cond.methodLink "BlanketKeys" (110 : Nat) ({ cls := "java/lang/Float", name := "intBitsToFloat", desc := "(I)F" } : Jvm.MethodName)) ∈ lw_all := lw_g (lw_at lw_m3 10 rfl) rfl
theorem q549 : (Jvm.Cond.methodLink "BlanketKeys" (116 : Nat) ({ cls := "BlanketKeys", name := "mostOf", desc := "(I)F" } : Jvm.MethodName)) ∈ lw_all := lw_g (lw_at lw_m3 13 rfl) rfl
theorem q550 : (Jvm.Cond.static ({ cls := "BlanketKeys", name := "mostOf", desc := "(I)F" } : Jvm.MethodName)) ∈ lw_all := lw_g (lw_at lw_m3 14 rfl) rfl
theorem q551 : (Jvm.Cond.code ({ cls := "BlanketKeys", name := "mostOf", desc := "(I)F" } : Jvm.MethodName) prog_1_method_13_code (1 : Nat) (Option.some Jvm.ClassFile.FieldType.float)) ∈ lw_all := lw_g (lw_at lw_m3 15 rfl) rfl
theorem q552 : (Jvm.Cond.constantFloat "BlanketKeys" (108 : Nat) (1082130432 : UInt32)) ∈ lw_all := lw_g (lw_at lw_m3 16 rfl) rfl
theorem q553 : (Jvm.Cond.methodLink "BlanketKeys" (123 : Nat) ({ cls := "java/lang/Float", name := "floatToRawIntBits", desc := "(F)I" } : Jvm.MethodName)) ∈ lw_all := lw_g (lw_at lw_m3 17 rfl) rfl
theorem q557 : (Jvm.Cond.instanceMethod ({ cls := "BlanketKeys", name := "press", desc := "(II)I" } : Jvm.MethodName)) ∈ lw_all := lw_g (lw_at lw_m3 21 rfl) rfl
theorem q558 : (Jvm.Cond.selects "BlanketKeys" ({ cls := "BlanketKeys", name := "press", desc := "(II)I" } : Jvm.MethodName) ({ cls := "BlanketKeys", name := "press", desc := "(II)I" } : Jvm.MethodName)) ∈ lw_all := lw_g (lw_at lw_m3 22 rfl) rfl
theorem q559 : (Jvm.Cond.code ({ cls := "BlanketKeys", name := "press", desc := "(II)I" } : Jvm.MethodName) prog_1_method_16_code (4 : Nat) (Option.some Jvm.ClassFile.FieldType.int)) ∈ lw_all := lw_g (lw_at lw_m3 23 rfl) rfl
theorem q560 : (Jvm.Cond.methodLink "BlanketKeys" (127 : Nat) ({ cls := "BlanketKeys$State", name := "press", desc := "(II)I" } : Jvm.MethodName)) ∈ lw_all := lw_g (lw_at lw_m3 24 rfl) rfl
theorem q571 : (Jvm.Cond.methodLink "BlanketKeys" (131 : Nat) ({ cls := "BlanketKeys", name := "take", desc := "(LBlanketKeys$State;I)I" } : Jvm.MethodName)) ∈ lw_all := lw_g (lw_at lw_m3 35 rfl) rfl
theorem q572 : (Jvm.Cond.privateMethod ({ cls := "BlanketKeys", name := "take", desc := "(LBlanketKeys$State;I)I" } : Jvm.MethodName)) ∈ lw_tbl := lw_at lw_m3 36 rfl
theorem q573 : (Jvm.Cond.instanceMethod ({ cls := "BlanketKeys", name := "take", desc := "(LBlanketKeys$State;I)I" } : Jvm.MethodName)) ∈ lw_all := lw_g (lw_at lw_m3 37 rfl) rfl
theorem q574 : (Jvm.Cond.code ({ cls := "BlanketKeys", name := "take", desc := "(LBlanketKeys$State;I)I" } : Jvm.MethodName) prog_1_method_15_code (3 : Nat) (Option.some Jvm.ClassFile.FieldType.int)) ∈ lw_all := lw_g (lw_at lw_m3 38 rfl) rfl
theorem q576 : (Jvm.Cond.instanceMethod ({ cls := "BlanketKeys", name := "release", desc := "(II)I" } : Jvm.MethodName)) ∈ lw_all := lw_g (lw_at lw_m3 40 rfl) rfl
theorem q577 : (Jvm.Cond.selects "BlanketKeys" ({ cls := "BlanketKeys", name := "release", desc := "(II)I" } : Jvm.MethodName) ({ cls := "BlanketKeys", name := "release", desc := "(II)I" } : Jvm.MethodName)) ∈ lw_all := lw_g (lw_at lw_m3 41 rfl) rfl
theorem q578 : (Jvm.Cond.code ({ cls := "BlanketKeys", name := "release", desc := "(II)I" } : Jvm.MethodName) prog_1_method_17_code (4 : Nat) (Option.some Jvm.ClassFile.FieldType.int)) ∈ lw_all := lw_g (lw_at lw_m3 42 rfl) rfl
theorem q579 : (Jvm.Cond.methodLink "BlanketKeys" (135 : Nat) ({ cls := "BlanketKeys$State", name := "release", desc := "(II)I" } : Jvm.MethodName)) ∈ lw_all := lw_g (lw_at lw_m3 43 rfl) rfl
theorem q584 : (Jvm.Cond.instanceMethod ({ cls := "BlanketKeys", name := "tick", desc := "(I)I" } : Jvm.MethodName)) ∈ lw_all := lw_g (lw_at lw_m3 48 rfl) rfl
theorem q585 : (Jvm.Cond.selects "BlanketKeys" ({ cls := "BlanketKeys", name := "tick", desc := "(I)I" } : Jvm.MethodName) ({ cls := "BlanketKeys", name := "tick", desc := "(I)I" } : Jvm.MethodName)) ∈ lw_all := lw_g (lw_at lw_m3 49 rfl) rfl
theorem q586 : (Jvm.Cond.code ({ cls := "BlanketKeys", name := "tick", desc := "(I)I" } : Jvm.MethodName) prog_1_method_18_code (4 : Nat) (Option.some Jvm.ClassFile.FieldType.int)) ∈ lw_all := lw_g (lw_at lw_m3 50 rfl) rfl
theorem q587 : (Jvm.Cond.methodLink "BlanketKeys" (138 : Nat) ({ cls := "BlanketKeys$State", name := "pass", desc := "()I" } : Jvm.MethodName)) ∈ lw_all := lw_g (lw_at lw_m3 51 rfl) rfl
theorem q618 : (Jvm.Cond.static ({ cls := "BlanketKeys", name := "size", desc := "(F)F" } : Jvm.MethodName)) ∈ lw_all := lw_g (lw_at lw_m3 82 rfl) rfl
theorem q619 : (Jvm.Cond.code ({ cls := "BlanketKeys", name := "size", desc := "(F)F" } : Jvm.MethodName) prog_1_method_4_code (1 : Nat) (Option.some Jvm.ClassFile.FieldType.float)) ∈ lw_all := lw_g (lw_at lw_m3 83 rfl) rfl
theorem q635 : (Jvm.Cond.fieldLinkNest "BlanketKeys" (155 : Nat) "BlanketKeys$Stroke" "key" "I" "BlanketKeys") ∈ lw_tbl := lw_at lw_m3 99 rfl
theorem q638 : (Jvm.Cond.fieldLinkNest "BlanketKeys" (291 : Nat) "BlanketKeys$Stroke" "since" "I" "BlanketKeys") ∈ lw_tbl := lw_at lw_m3 102 rfl
theorem q641 : (Jvm.Cond.fieldLinkNest "BlanketKeys" (292 : Nat) "BlanketKeys$Stroke" "dwell" "I" "BlanketKeys") ∈ lw_tbl := lw_at lw_m3 105 rfl
theorem q644 : (Jvm.Cond.fieldLinkNest "BlanketKeys" (283 : Nat) "BlanketKeys$Stroke" "shifts" "I" "BlanketKeys") ∈ lw_tbl := lw_at lw_m3 108 rfl
theorem q646 : (Jvm.Cond.fieldLinkNest "BlanketKeys" (286 : Nat) "BlanketKeys$Stroke" "holder" "I" "BlanketKeys") ∈ lw_tbl := lw_at lw_m3 110 rfl
theorem q649 : (Jvm.Cond.fieldLinkNest "BlanketKeys" (149 : Nat) "BlanketKeys$Stroke" "fate" "I" "BlanketKeys") ∈ lw_tbl := lw_at lw_m3 113 rfl
theorem q710 : (Jvm.Cond.instanceMethod ({ cls := "BlanketKeys", name := "settle", desc := "(II)I" } : Jvm.MethodName)) ∈ lw_all := lw_g (lw_at lw_m3 174 rfl) rfl
theorem q711 : (Jvm.Cond.selects "BlanketKeys" ({ cls := "BlanketKeys", name := "settle", desc := "(II)I" } : Jvm.MethodName) ({ cls := "BlanketKeys", name := "settle", desc := "(II)I" } : Jvm.MethodName)) ∈ lw_all := lw_g (lw_at lw_m3 175 rfl) rfl
theorem q712 : (Jvm.Cond.code ({ cls := "BlanketKeys", name := "settle", desc := "(II)I" } : Jvm.MethodName) prog_1_method_20_code (3 : Nat) (Option.some Jvm.ClassFile.FieldType.int)) ∈ lw_all := lw_g (lw_at lw_m3 176 rfl) rfl
theorem q713 : (Jvm.Cond.methodLink "BlanketKeys" (144 : Nat) ({ cls := "BlanketKeys", name := "isDispute", desc := "(I)Z" } : Jvm.MethodName)) ∈ lw_all := lw_g (lw_at lw_m3 177 rfl) rfl
theorem q714 : (Jvm.Cond.privateMethod ({ cls := "BlanketKeys", name := "isDispute", desc := "(I)Z" } : Jvm.MethodName)) ∈ lw_tbl := lw_at lw_m3 178 rfl
theorem q715 : (Jvm.Cond.instanceMethod ({ cls := "BlanketKeys", name := "isDispute", desc := "(I)Z" } : Jvm.MethodName)) ∈ lw_all := lw_g (lw_at lw_m3 179 rfl) rfl
theorem q716 : (Jvm.Cond.code ({ cls := "BlanketKeys", name := "isDispute", desc := "(I)Z" } : Jvm.MethodName) prog_1_method_19_code (2 : Nat) (Option.some Jvm.ClassFile.FieldType.boolean)) ∈ lw_all := lw_g (lw_at lw_m3 180 rfl) rfl
theorem q717 : (Jvm.Cond.classLink "BlanketKeys" (147 : Nat) "BlanketKeys$Stroke") ∈ lw_all := lw_g (lw_at lw_m3 181 rfl) rfl
theorem q718 : (Jvm.Cond.methodLink "BlanketKeys" (152 : Nat) ({ cls := "BlanketKeys$State", name := "settle", desc := "(II)V" } : Jvm.MethodName)) ∈ lw_all := lw_g (lw_at lw_m3 182 rfl) rfl
theorem q742 : (Jvm.Cond.instanceMethod ({ cls := "BlanketKeys", name := "type", desc := "(C)I" } : Jvm.MethodName)) ∈ lw_all := lw_g (lw_at lw_m3 206 rfl) rfl
theorem q743 : (Jvm.Cond.selects "BlanketKeys" ({ cls := "BlanketKeys", name := "type", desc := "(C)I" } : Jvm.MethodName) ({ cls := "BlanketKeys", name := "type", desc := "(C)I" } : Jvm.MethodName)) ∈ lw_all := lw_g (lw_at lw_m3 207 rfl) rfl
theorem q744 : (Jvm.Cond.code ({ cls := "BlanketKeys", name := "type", desc := "(C)I" } : Jvm.MethodName) prog_1_method_21_code (2 : Nat) (Option.some Jvm.ClassFile.FieldType.int)) ∈ lw_all := lw_g (lw_at lw_m3 208 rfl) rfl
theorem q745 : (Jvm.Cond.methodLink "BlanketKeys" (158 : Nat) ({ cls := "java/lang/StringBuilder", name := "length", desc := "()I" } : Jvm.MethodName)) ∈ lw_all := lw_g (lw_at lw_m3 209 rfl) rfl
theorem q752 : (Jvm.Cond.methodLink "BlanketKeys" (161 : Nat) ({ cls := "java/lang/StringBuilder", name := "append", desc := "(C)Ljava/lang/StringBuilder;" } : Jvm.MethodName)) ∈ lw_all := lw_g (lw_at lw_m3 216 rfl) rfl
theorem q829 : (Jvm.Cond.instanceMethod ({ cls := "BlanketKeys", name := "clearText", desc := "()I" } : Jvm.MethodName)) ∈ lw_all := lw_g (lw_at lw_m4 53 rfl) rfl
theorem q830 : (Jvm.Cond.selects "BlanketKeys" ({ cls := "BlanketKeys", name := "clearText", desc := "()I" } : Jvm.MethodName) ({ cls := "BlanketKeys", name := "clearText", desc := "()I" } : Jvm.MethodName)) ∈ lw_all := lw_g (lw_at lw_m4 54 rfl) rfl
theorem q831 : (Jvm.Cond.code ({ cls := "BlanketKeys", name := "clearText", desc := "()I" } : Jvm.MethodName) prog_1_method_22_code (2 : Nat) (Option.some Jvm.ClassFile.FieldType.int)) ∈ lw_all := lw_g (lw_at lw_m4 55 rfl) rfl
theorem q832 : (Jvm.Cond.methodLink "BlanketKeys" (165 : Nat) ({ cls := "java/lang/StringBuilder", name := "setLength", desc := "(I)V" } : Jvm.MethodName)) ∈ lw_all := lw_g (lw_at lw_m4 56 rfl) rfl
theorem q853 : (Jvm.Cond.instanceMethod ({ cls := "BlanketKeys", name := "perform", desc := "()I" } : Jvm.MethodName)) ∈ lw_all := lw_g (lw_at lw_m4 77 rfl) rfl
theorem q854 : (Jvm.Cond.selects "BlanketKeys" ({ cls := "BlanketKeys", name := "perform", desc := "()I" } : Jvm.MethodName) ({ cls := "BlanketKeys", name := "perform", desc := "()I" } : Jvm.MethodName)) ∈ lw_all := lw_g (lw_at lw_m4 78 rfl) rfl
theorem q855 : (Jvm.Cond.codeWith ({ cls := "BlanketKeys", name := "perform", desc := "()I" } : Jvm.MethodName) prog_1_method_24_code (6 : Nat) (Option.some Jvm.ClassFile.FieldType.int) [((0 : Nat), (15 : Nat), (18 : Nat), (194 : Nat))]) ∈ lw_all := lw_g (lw_at lw_m4 79 rfl) rfl
theorem q856 : (Jvm.Cond.classLink "BlanketKeys" (194 : Nat) "BlanketKeys$TextFault") ∈ lw_all := lw_g (lw_at lw_m4 80 rfl) rfl
theorem q857 : (Jvm.Cond.classLink "BlanketKeys" (185 : Nat) "BlanketKeys$Reader") ∈ lw_all := lw_g (lw_at lw_m4 81 rfl) rfl
theorem q859 : (Jvm.Cond.methodLink "BlanketKeys" (187 : Nat) ({ cls := "BlanketKeys$Reader", name := "<init>", desc := "(Ljava/lang/CharSequence;)V" } : Jvm.MethodName)) ∈ lw_all := lw_g (lw_at lw_m4 83 rfl) rfl
theorem q870 : (Jvm.Cond.methodLink "BlanketKeys" (190 : Nat) ({ cls := "BlanketKeys$Reader", name := "moves", desc := "()Ljava/util/List;" } : Jvm.MethodName)) ∈ lw_all := lw_g (lw_at lw_m4 94 rfl) rfl
theorem q941 : (Jvm.Cond.fieldLinkNest "BlanketKeys" (196 : Nat) "BlanketKeys$TextFault" "place" "I" "BlanketKeys") ∈ lw_tbl := lw_at lw_m4 165 rfl
theorem q988 : (Jvm.Cond.fieldLinkNest "BlanketKeys" (169 : Nat) "BlanketKeys$Move" "typist" "I" "BlanketKeys") ∈ lw_tbl := lw_at lw_m4 212 rfl
theorem q990 : (Jvm.Cond.fieldLinkNest "BlanketKeys" (177 : Nat) "BlanketKeys$Move" "isDown" "Z" "BlanketKeys") ∈ lw_tbl := lw_at lw_m4 214 rfl
theorem q992 : (Jvm.Cond.fieldLinkNest "BlanketKeys" (174 : Nat) "BlanketKeys$Move" "number" "I" "BlanketKeys") ∈ lw_tbl := lw_at lw_m4 216 rfl
theorem q1002 : (Jvm.Cond.classLink "BlanketKeys" (170 : Nat) "BlanketKeys$Move") ∈ lw_all := lw_g (lw_at lw_m4 226 rfl) rfl
theorem q1003 : (Jvm.Cond.methodLink "BlanketKeys" (199 : Nat) ({ cls := "BlanketKeys", name := "follow", desc := "(LBlanketKeys$State;LBlanketKeys$Move;)I" } : Jvm.MethodName)) ∈ lw_all := lw_g (lw_at lw_m4 227 rfl) rfl
theorem q1004 : (Jvm.Cond.static ({ cls := "BlanketKeys", name := "follow", desc := "(LBlanketKeys$State;LBlanketKeys$Move;)I" } : Jvm.MethodName)) ∈ lw_all := lw_g (lw_at lw_m4 228 rfl) rfl
theorem q1005 : (Jvm.Cond.code ({ cls := "BlanketKeys", name := "follow", desc := "(LBlanketKeys$State;LBlanketKeys$Move;)I" } : Jvm.MethodName) prog_1_method_23_code (4 : Nat) (Option.some Jvm.ClassFile.FieldType.int)) ∈ lw_all := lw_g (lw_at lw_m4 229 rfl) rfl
theorem q1006 : (Jvm.Cond.methodLink "BlanketKeys" (180 : Nat) ({ cls := "java/lang/Math", name := "min", desc := "(II)I" } : Jvm.MethodName)) ∈ lw_all := lw_g (lw_at lw_m4 230 rfl) rfl
theorem q1008 : (Jvm.Cond.instanceMethod ({ cls := "BlanketKeys", name := "undo", desc := "()I" } : Jvm.MethodName)) ∈ lw_all := lw_g (lw_at lw_m4 232 rfl) rfl
theorem q1009 : (Jvm.Cond.selects "BlanketKeys" ({ cls := "BlanketKeys", name := "undo", desc := "()I" } : Jvm.MethodName) ({ cls := "BlanketKeys", name := "undo", desc := "()I" } : Jvm.MethodName)) ∈ lw_all := lw_g (lw_at lw_m4 233 rfl) rfl
theorem q1010 : (Jvm.Cond.code ({ cls := "BlanketKeys", name := "undo", desc := "()I" } : Jvm.MethodName) prog_1_method_25_code (1 : Nat) (Option.some Jvm.ClassFile.FieldType.int)) ∈ lw_all := lw_g (lw_at lw_m4 234 rfl) rfl
theorem q1011 : (Jvm.Cond.interfaceEntry "BlanketKeys" (203 : Nat)) ∈ lw_tbl := lw_at lw_m4 235 rfl
theorem q1012 : (Jvm.Cond.methodLink "BlanketKeys" (203 : Nat) ({ cls := "java/util/List", name := "isEmpty", desc := "()Z" } : Jvm.MethodName)) ∈ lw_all := lw_g (lw_at lw_m4 236 rfl) rfl
theorem q1021 : (Jvm.Cond.instanceMethod ({ cls := "BlanketKeys", name := "keep", desc := "()I" } : Jvm.MethodName)) ∈ lw_all := lw_g (lw_at lw_m5 5 rfl) rfl
theorem q1022 : (Jvm.Cond.selects "BlanketKeys" ({ cls := "BlanketKeys", name := "keep", desc := "()I" } : Jvm.MethodName) ({ cls := "BlanketKeys", name := "keep", desc := "()I" } : Jvm.MethodName)) ∈ lw_all := lw_g (lw_at lw_m5 6 rfl) rfl
theorem q1023 : (Jvm.Cond.code ({ cls := "BlanketKeys", name := "keep", desc := "()I" } : Jvm.MethodName) prog_1_method_26_code (1 : Nat) (Option.some Jvm.ClassFile.FieldType.int)) ∈ lw_all := lw_g (lw_at lw_m5 7 rfl) rfl
theorem q1025 : (Jvm.Cond.instanceMethod ({ cls := "BlanketKeys", name := "restore", desc := "()I" } : Jvm.MethodName)) ∈ lw_all := lw_g (lw_at lw_m5 9 rfl) rfl
theorem q1026 : (Jvm.Cond.selects "BlanketKeys" ({ cls := "BlanketKeys", name := "restore", desc := "()I" } : Jvm.MethodName) ({ cls := "BlanketKeys", name := "restore", desc := "()I" } : Jvm.MethodName)) ∈ lw_all := lw_g (lw_at lw_m5 10 rfl) rfl
theorem q1027 : (Jvm.Cond.code ({ cls := "BlanketKeys", name := "restore", desc := "()I" } : Jvm.MethodName) prog_1_method_27_code (1 : Nat) (Option.some Jvm.ClassFile.FieldType.int)) ∈ lw_all := lw_g (lw_at lw_m5 11 rfl) rfl
theorem q1029 : (Jvm.Cond.instanceMethod ({ cls := "BlanketKeys", name := "key", desc := "(II)I" } : Jvm.MethodName)) ∈ lw_all := lw_g (lw_at lw_m5 13 rfl) rfl
theorem q1030 : (Jvm.Cond.selects "BlanketKeys" ({ cls := "BlanketKeys", name := "key", desc := "(II)I" } : Jvm.MethodName) ({ cls := "BlanketKeys", name := "key", desc := "(II)I" } : Jvm.MethodName)) ∈ lw_all := lw_g (lw_at lw_m5 14 rfl) rfl
theorem q1031 : (Jvm.Cond.code ({ cls := "BlanketKeys", name := "key", desc := "(II)I" } : Jvm.MethodName) prog_1_method_28_code (4 : Nat) (Option.some Jvm.ClassFile.FieldType.int)) ∈ lw_all := lw_g (lw_at lw_m5 15 rfl) rfl
theorem q1032 : (Jvm.Cond.methodLink "BlanketKeys" (221 : Nat) ({ cls := "BlanketKeys$State", name := "isSensed", desc := "(I)Z" } : Jvm.MethodName)) ∈ lw_all := lw_g (lw_at lw_m5 16 rfl) rfl
theorem q1037 : (Jvm.Cond.instanceMethod ({ cls := "BlanketKeys", name := "typist", desc := "(II)I" } : Jvm.MethodName)) ∈ lw_all := lw_g (lw_at lw_m5 21 rfl) rfl
theorem q1038 : (Jvm.Cond.selects "BlanketKeys" ({ cls := "BlanketKeys", name := "typist", desc := "(II)I" } : Jvm.MethodName) ({ cls := "BlanketKeys", name := "typist", desc := "(II)I" } : Jvm.MethodName)) ∈ lw_all := lw_g (lw_at lw_m5 22 rfl) rfl
theorem q1039 : (Jvm.Cond.code ({ cls := "BlanketKeys", name := "typist", desc := "(II)I" } : Jvm.MethodName) prog_1_method_29_code (3 : Nat) (Option.some Jvm.ClassFile.FieldType.int)) ∈ lw_all := lw_g (lw_at lw_m5 23 rfl) rfl
theorem q1040 : (Jvm.Cond.methodLink "BlanketKeys" (224 : Nat) ({ cls := "BlanketKeys$State", name := "held", desc := "(I)I" } : Jvm.MethodName)) ∈ lw_all := lw_g (lw_at lw_m5 24 rfl) rfl
theorem q1041 : (Jvm.Cond.methodLink "BlanketKeys" (227 : Nat) ({ cls := "BlanketKeys$State", name := "isShiftOn", desc := "(I)Z" } : Jvm.MethodName)) ∈ lw_all := lw_g (lw_at lw_m5 25 rfl) rfl
theorem q1043 : (Jvm.Cond.instanceMethod ({ cls := "BlanketKeys", name := "style", desc := "(II)F" } : Jvm.MethodName)) ∈ lw_all := lw_g (lw_at lw_m5 27 rfl) rfl
theorem q1044 : (Jvm.Cond.selects "BlanketKeys" ({ cls := "BlanketKeys", name := "style", desc := "(II)F" } : Jvm.MethodName) ({ cls := "BlanketKeys", name := "style", desc := "(II)F" } : Jvm.MethodName)) ∈ lw_all := lw_g (lw_at lw_m5 28 rfl) rfl
theorem q1045 : (Jvm.Cond.code ({ cls := "BlanketKeys", name := "style", desc := "(II)F" } : Jvm.MethodName) prog_1_method_31_code (3 : Nat) (Option.some Jvm.ClassFile.FieldType.float)) ∈ lw_all := lw_g (lw_at lw_m5 29 rfl) rfl
theorem q1046 : (Jvm.Cond.methodLink "BlanketKeys" (256 : Nat) ({ cls := "BlanketKeys", name := "mean", desc := "(II)F" } : Jvm.MethodName)) ∈ lw_all := lw_g (lw_at lw_m5 30 rfl) rfl
theorem q1047 : (Jvm.Cond.privateMethod ({ cls := "BlanketKeys", name := "mean", desc := "(II)F" } : Jvm.MethodName)) ∈ lw_tbl := lw_at lw_m5 31 rfl
theorem q1048 : (Jvm.Cond.instanceMethod ({ cls := "BlanketKeys", name := "mean", desc := "(II)F" } : Jvm.MethodName)) ∈ lw_all := lw_g (lw_at lw_m5 32 rfl) rfl
theorem q1049 : (Jvm.Cond.code ({ cls := "BlanketKeys", name := "mean", desc := "(II)F" } : Jvm.MethodName) prog_1_method_30_code (3 : Nat) (Option.some Jvm.ClassFile.FieldType.float)) ∈ lw_all := lw_g (lw_at lw_m5 33 rfl) rfl
theorem q1050 : (Jvm.Cond.methodLink "BlanketKeys" (260 : Nat) ({ cls := "BlanketKeys", name := "nothing", desc := "()F" } : Jvm.MethodName)) ∈ lw_all := lw_g (lw_at lw_m5 34 rfl) rfl
theorem q1051 : (Jvm.Cond.static ({ cls := "BlanketKeys", name := "nothing", desc := "()F" } : Jvm.MethodName)) ∈ lw_all := lw_g (lw_at lw_m5 35 rfl) rfl
theorem q1052 : (Jvm.Cond.code ({ cls := "BlanketKeys", name := "nothing", desc := "()F" } : Jvm.MethodName) prog_1_method_5_code (0 : Nat) (Option.some Jvm.ClassFile.FieldType.float)) ∈ lw_all := lw_g (lw_at lw_m5 36 rfl) rfl
theorem q1053 : (Jvm.Cond.constantFloat "BlanketKeys" (7 : Nat) (2143289344 : UInt32)) ∈ lw_all := lw_g (lw_at lw_m5 37 rfl) rfl
theorem q1055 : (Jvm.Cond.instanceMethod ({ cls := "BlanketKeys", name := "hundredths", desc := "(II)I" } : Jvm.MethodName)) ∈ lw_all := lw_g (lw_at lw_m5 39 rfl) rfl
theorem q1056 : (Jvm.Cond.selects "BlanketKeys" ({ cls := "BlanketKeys", name := "hundredths", desc := "(II)I" } : Jvm.MethodName) ({ cls := "BlanketKeys", name := "hundredths", desc := "(II)I" } : Jvm.MethodName)) ∈ lw_all := lw_g (lw_at lw_m5 40 rfl) rfl
theorem q1057 : (Jvm.Cond.code ({ cls := "BlanketKeys", name := "hundredths", desc := "(II)I" } : Jvm.MethodName) prog_1_method_32_code (3 : Nat) (Option.some Jvm.ClassFile.FieldType.int)) ∈ lw_all := lw_g (lw_at lw_m5 41 rfl) rfl
theorem q1058 : (Jvm.Cond.constantFloat "BlanketKeys" (264 : Nat) (1120403456 : UInt32)) ∈ lw_all := lw_g (lw_at lw_m5 42 rfl) rfl
theorem q1060 : (Jvm.Cond.instanceMethod ({ cls := "BlanketKeys", name := "typed", desc := "(II)I" } : Jvm.MethodName)) ∈ lw_all := lw_g (lw_at lw_m5 44 rfl) rfl
theorem q1061 : (Jvm.Cond.selects "BlanketKeys" ({ cls := "BlanketKeys", name := "typed", desc := "(II)I" } : Jvm.MethodName) ({ cls := "BlanketKeys", name := "typed", desc := "(II)I" } : Jvm.MethodName)) ∈ lw_all := lw_g (lw_at lw_m5 45 rfl) rfl
theorem q1062 : (Jvm.Cond.code ({ cls := "BlanketKeys", name := "typed", desc := "(II)I" } : Jvm.MethodName) prog_1_method_33_code (4 : Nat) (Option.some Jvm.ClassFile.FieldType.int)) ∈ lw_all := lw_g (lw_at lw_m5 46 rfl) rfl
theorem q1063 : (Jvm.Cond.classLink "BlanketKeys" (268 : Nat) "BlanketKeys$Latest") ∈ lw_all := lw_g (lw_at lw_m5 47 rfl) rfl
theorem q1064 : (Jvm.Cond.methodLink "BlanketKeys" (270 : Nat) ({ cls := "BlanketKeys$Latest", name := "back", desc := "(I)Ljava/lang/Object;" } : Jvm.MethodName)) ∈ lw_all := lw_g (lw_at lw_m5 48 rfl) rfl
theorem q1068 : (Jvm.Cond.classLink "BlanketKeys" (273 : Nat) "java/lang/Character") ∈ lw_all := lw_g (lw_at lw_m5 52 rfl) rfl
theorem q1069 : (Jvm.Cond.methodLink "BlanketKeys" (275 : Nat) ({ cls := "java/lang/Character", name := "charValue", desc := "()C" } : Jvm.MethodName)) ∈ lw_all := lw_g (lw_at lw_m5 53 rfl) rfl
theorem q1074 : (Jvm.Cond.instanceMethod ({ cls := "BlanketKeys", name := "stroke", desc := "(II)I" } : Jvm.MethodName)) ∈ lw_all := lw_g (lw_at lw_m5 58 rfl) rfl
theorem q1075 : (Jvm.Cond.selects "BlanketKeys" ({ cls := "BlanketKeys", name := "stroke", desc := "(II)I" } : Jvm.MethodName) ({ cls := "BlanketKeys", name := "stroke", desc := "(II)I" } : Jvm.MethodName)) ∈ lw_all := lw_g (lw_at lw_m5 59 rfl) rfl
theorem q1076 : (Jvm.Cond.code ({ cls := "BlanketKeys", name := "stroke", desc := "(II)I" } : Jvm.MethodName) prog_1_method_34_code (4 : Nat) (Option.some Jvm.ClassFile.FieldType.int)) ∈ lw_all := lw_g (lw_at lw_m5 60 rfl) rfl
theorem q1077 : (Jvm.Cond.methodLink "BlanketKeys" (287 : Nat) ({ cls := "BlanketKeys", name := "told", desc := "(LBlanketKeys$Stroke;I)I" } : Jvm.MethodName)) ∈ lw_all := lw_g (lw_at lw_m5 61 rfl) rfl
theorem q1078 : (Jvm.Cond.static ({ cls := "BlanketKeys", name := "told", desc := "(LBlanketKeys$Stroke;I)I" } : Jvm.MethodName)) ∈ lw_all := lw_g (lw_at lw_m5 62 rfl) rfl
theorem q1079 : (Jvm.Cond.code ({ cls := "BlanketKeys", name := "told", desc := "(LBlanketKeys$Stroke;I)I" } : Jvm.MethodName) prog_1_method_35_code (2 : Nat) (Option.some Jvm.ClassFile.FieldType.int)) ∈ lw_all := lw_g (lw_at lw_m5 63 rfl) rfl
theorem q1081 : (Jvm.Cond.instanceMethod ({ cls := "BlanketKeys", name := "dispute", desc := "(II)I" } : Jvm.MethodName)) ∈ lw_all := lw_g (lw_at lw_m5 65 rfl) rfl
theorem q1082 : (Jvm.Cond.selects "BlanketKeys" ({ cls := "BlanketKeys", name := "dispute", desc := "(II)I" } : Jvm.MethodName) ({ cls := "BlanketKeys", name := "dispute", desc := "(II)I" } : Jvm.MethodName)) ∈ lw_all := lw_g (lw_at lw_m5 66 rfl) rfl
theorem q1083 : (Jvm.Cond.code ({ cls := "BlanketKeys", name := "dispute", desc := "(II)I" } : Jvm.MethodName) prog_1_method_36_code (4 : Nat) (Option.some Jvm.ClassFile.FieldType.int)) ∈ lw_all := lw_g (lw_at lw_m5 67 rfl) rfl
theorem q1085 : (Jvm.Cond.instanceMethod ({ cls := "BlanketKeys", name := "distance", desc := "(III)F" } : Jvm.MethodName)) ∈ lw_all := lw_g (lw_at lw_m5 69 rfl) rfl
theorem q1086 : (Jvm.Cond.selects "BlanketKeys" ({ cls := "BlanketKeys", name := "distance", desc := "(III)F" } : Jvm.MethodName) ({ cls := "BlanketKeys", name := "distance", desc := "(III)F" } : Jvm.MethodName)) ∈ lw_all := lw_g (lw_at lw_m5 70 rfl) rfl
theorem q1087 : (Jvm.Cond.code ({ cls := "BlanketKeys", name := "distance", desc := "(III)F" } : Jvm.MethodName) prog_1_method_37_code (4 : Nat) (Option.some Jvm.ClassFile.FieldType.float)) ∈ lw_all := lw_g (lw_at lw_m5 71 rfl) rfl
theorem q1088 : (Jvm.Cond.methodLink "BlanketKeys" (294 : Nat) ({ cls := "BlanketKeys$Style", name := "distance", desc := "(II)F" } : Jvm.MethodName)) ∈ lw_all := lw_g (lw_at lw_m5 72 rfl) rfl
theorem q1090 : (Jvm.Cond.instanceMethod ({ cls := "BlanketKeys", name := "verdict", desc := "(I)I" } : Jvm.MethodName)) ∈ lw_all := lw_g (lw_at lw_m5 74 rfl) rfl
theorem q1091 : (Jvm.Cond.selects "BlanketKeys" ({ cls := "BlanketKeys", name := "verdict", desc := "(I)I" } : Jvm.MethodName) ({ cls := "BlanketKeys", name := "verdict", desc := "(I)I" } : Jvm.MethodName)) ∈ lw_all := lw_g (lw_at lw_m5 75 rfl) rfl
theorem q1092 : (Jvm.Cond.code ({ cls := "BlanketKeys", name := "verdict", desc := "(I)I" } : Jvm.MethodName) prog_1_method_38_code (3 : Nat) (Option.some Jvm.ClassFile.FieldType.int)) ∈ lw_all := lw_g (lw_at lw_m5 76 rfl) rfl
theorem q1093 : (Jvm.Cond.methodLink "BlanketKeys" (297 : Nat) ({ cls := "BlanketKeys$State", name := "verdict", desc := "(LBlanketKeys$Key;I)I" } : Jvm.MethodName)) ∈ lw_all := lw_g (lw_at lw_m5 77 rfl) rfl
theorem q1095 : (Jvm.Cond.instanceMethod ({ cls := "BlanketKeys", name := "ghostsBy", desc := "(I)I" } : Jvm.MethodName)) ∈ lw_all := lw_g (lw_at lw_m5 79 rfl) rfl
theorem q1096 : (Jvm.Cond.selects "BlanketKeys" ({ cls := "BlanketKeys", name := "ghostsBy", desc := "(I)I" } : Jvm.MethodName) ({ cls := "BlanketKeys", name := "ghostsBy", desc := "(I)I" } : Jvm.MethodName)) ∈ lw_all := lw_g (lw_at lw_m5 80 rfl) rfl
theorem q1097 : (Jvm.Cond.code ({ cls := "BlanketKeys", name := "ghostsBy", desc := "(I)I" } : Jvm.MethodName) prog_1_method_40_code (7 : Nat) (Option.some Jvm.ClassFile.FieldType.int)) ∈ lw_all := lw_g (lw_at lw_m5 81 rfl) rfl
theorem q1098 : (Jvm.Cond.methodLink "BlanketKeys" (301 : Nat) ({ cls := "BlanketKeys", name := "ghosts", desc := "(LBlanketKeys$State;I)J" } : Jvm.MethodName)) ∈ lw_all := lw_g (lw_at lw_m5 82 rfl) rfl
theorem q1099 : (Jvm.Cond.static ({ cls := "BlanketKeys", name := "ghosts", desc := "(LBlanketKeys$State;I)J" } : Jvm.MethodName)) ∈ lw_all := lw_g (lw_at lw_m5 83 rfl) rfl
theorem q1100 : (Jvm.Cond.code ({ cls := "BlanketKeys", name := "ghosts", desc := "(LBlanketKeys$State;I)J" } : Jvm.MethodName) prog_1_method_39_code (5 : Nat) (Option.some Jvm.ClassFile.FieldType.long)) ∈ lw_all := lw_g (lw_at lw_m5 84 rfl) rfl
theorem q1101 : (Jvm.Cond.constantLong "BlanketKeys" (305 : Nat) (-1 : Int64)) ∈ lw_all := lw_g (lw_at lw_m5 85 rfl) rfl
theorem q1102 : (Jvm.Cond.methodLink "BlanketKeys" (307 : Nat) ({ cls := "java/lang/Long", name := "bitCount", desc := "(J)I" } : Jvm.MethodName)) ∈ lw_all := lw_g (lw_at lw_m5 86 rfl) rfl
theorem q1109 : (Jvm.Cond.instanceMethod ({ cls := "BlanketKeys", name := "count", desc := "(I)I" } : Jvm.MethodName)) ∈ lw_all := lw_g (lw_at lw_m5 93 rfl) rfl
theorem q1110 : (Jvm.Cond.selects "BlanketKeys" ({ cls := "BlanketKeys", name := "count", desc := "(I)I" } : Jvm.MethodName) ({ cls := "BlanketKeys", name := "count", desc := "(I)I" } : Jvm.MethodName)) ∈ lw_all := lw_g (lw_at lw_m5 94 rfl) rfl
theorem q1111 : (Jvm.Cond.code ({ cls := "BlanketKeys", name := "count", desc := "(I)I" } : Jvm.MethodName) prog_1_method_42_code (2 : Nat) (Option.some Jvm.ClassFile.FieldType.int)) ∈ lw_all := lw_g (lw_at lw_m5 95 rfl) rfl
theorem q1112 : (Jvm.Cond.methodLink "BlanketKeys" (313 : Nat) ({ cls := "BlanketKeys", name := "keysThat", desc := "(I)I" } : Jvm.MethodName)) ∈ lw_all := lw_g (lw_at lw_m5 96 rfl) rfl
theorem q1113 : (Jvm.Cond.privateMethod ({ cls := "BlanketKeys", name := "keysThat", desc := "(I)I" } : Jvm.MethodName)) ∈ lw_tbl := lw_at lw_m5 97 rfl
theorem q1114 : (Jvm.Cond.instanceMethod ({ cls := "BlanketKeys", name := "keysThat", desc := "(I)I" } : Jvm.MethodName)) ∈ lw_all := lw_g (lw_at lw_m5 98 rfl) rfl
theorem q1115 : (Jvm.Cond.code ({ cls := "BlanketKeys", name := "keysThat", desc := "(I)I" } : Jvm.MethodName) prog_1_method_41_code (5 : Nat) (Option.some Jvm.ClassFile.FieldType.int)) ∈ lw_all := lw_g (lw_at lw_m5 99 rfl) rfl
theorem q1116 : (Jvm.Cond.methodLink "BlanketKeys" (321 : Nat) ({ cls := "BlanketKeys$State", name := "openDisputes", desc := "()I" } : Jvm.MethodName)) ∈ lw_all := lw_g (lw_at lw_m5 100 rfl) rfl
theorem q1451 : (Jvm.Cond.castable "BlanketKeys" "java/lang/Object") ∈ lw_tbl := lw_at lw_m6 195 rfl
theorem in_X0 : ∀ w ∈ wsX00, w ∈ lw_all := lw_in wsX00 [396, 398, 400, 402] (by decide +kernel) (by decide +kernel)
/-! BlanketKeys$Latest -/
set_option maxRecDepth 100000
def RX2 : String := "BlanketKeys$Latest"
def TX2 : u_T := fun k => match k with
  | 0 => ("BlanketKeys$Latest", "most", "I", true)
  | _ => ("BlanketKeys$Latest", "items", "Ljava/util/List;", true)
def tyX2 : Nat → FieldType := fun k => match k with
  | 0 => .int
  | _ => .object "java/util/List"
abbrev wsX20 : List Cond := u_ws RX2 TX2 2
theorem nmX2 : ∀ a, a < 2 → ∀ b, b < 2 → a ≠ b → (TX2 a).2.1 ≠ (TX2 b).2.1 := by decide +kernel
theorem tyX2_ok : ∀ k, k < 2 → parseFieldDescriptor (TX2 k).2.2.1 = some (tyX2 k) := by decide +kernel
abbrev cX2_init : ByteArray := prog_3_method_1_code
def yX2_init : MethodName := ⟨RX2, "<init>", "(I)V"⟩
def dkwX2_init_0 : List UInt8 := [42, 183, 0, 1, 42, 187, 0, 7, 89, 183, 0, 9, 181, 0, 10, 42, 27, 181, 0, 16, 177]
abbrev dktX2_init_0 : List UInt8 := dkwX2_init_0 ++ []
theorem dksX2_init_0 : cX2_init.data.toList.drop 0 = dktX2_init_0 := by decide +kernel
theorem dX2_init_0 : decode cX2_init 0 = .ok (.aload_n 0, 1) := dk_42 (dk_at dksX2_init_0 0 rfl rfl)
theorem dX2_init_1 : decode cX2_init 1 = .ok (.invokespecial 1, 3) := dk_183 0 1 (dk_at dksX2_init_0 1 rfl rfl)
theorem dX2_init_4 : decode cX2_init 4 = .ok (.aload_n 0, 1) := dk_42 (dk_at dksX2_init_0 4 rfl rfl)
theorem dX2_init_5 : decode cX2_init 5 = .ok (.new 7, 3) := dk_187 0 7 (dk_at dksX2_init_0 5 rfl rfl)
theorem dX2_init_8 : decode cX2_init 8 = .ok (.dup, 1) := dk_89 (dk_at dksX2_init_0 8 rfl rfl)
theorem dX2_init_9 : decode cX2_init 9 = .ok (.invokespecial 9, 3) := dk_183 0 9 (dk_at dksX2_init_0 9 rfl rfl)
theorem dX2_init_12 : decode cX2_init 12 = .ok (.putfield 10, 3) := dk_181 0 10 (dk_at dksX2_init_0 12 rfl rfl)
theorem dX2_init_15 : decode cX2_init 15 = .ok (.aload_n 0, 1) := dk_42 (dk_at dksX2_init_0 15 rfl rfl)
theorem dX2_init_16 : decode cX2_init 16 = .ok (.iload_n 1, 1) := dk_27 (dk_at dksX2_init_0 16 rfl rfl)
theorem dX2_init_17 : decode cX2_init 17 = .ok (.putfield 16, 3) := dk_181 0 16 (dk_at dksX2_init_0 17 rfl rfl)
theorem dX2_init_20 : decode cX2_init 20 = .ok (.return_, 1) := dk_177 (dk_at dksX2_init_0 20 rfl rfl)
abbrev cX2_putAll : ByteArray := prog_3_method_4_code
def yX2_putAll : MethodName := ⟨RX2, "putAll", "(LBlanketKeys$Latest;)V"⟩
def dkwX2_putAll_1 : List UInt8 := [185, 0, 34, 2, 0, 182, 0, 37, 132, 2, 1, 167, 255, 226, 177]
abbrev dktX2_putAll_1 : List UInt8 := dkwX2_putAll_1 ++ []
def dkwX2_putAll_0 : List UInt8 := [3, 61, 28, 43, 180, 0, 10, 185, 0, 20, 1, 0, 162, 0, 23, 42, 43, 180, 0, 10, 28]
abbrev dktX2_putAll_0 : List UInt8 := dkwX2_putAll_0 ++ dktX2_putAll_1
theorem dksX2_putAll_0 : cX2_putAll.data.toList.drop 0 = dktX2_putAll_0 := by decide +kernel
theorem dksX2_putAll_1 : cX2_putAll.data.toList.drop 21 = dktX2_putAll_1 := dk_seg dksX2_putAll_0 21 rfl rfl
theorem dX2_putAll_0 : decode cX2_putAll 0 = .ok (.iconst 0, 1) := dk_3 (dk_at dksX2_putAll_0 0 rfl rfl)
theorem dX2_putAll_1 : decode cX2_putAll 1 = .ok (.istore_n 2, 1) := dk_61 (dk_at dksX2_putAll_0 1 rfl rfl)
theorem dX2_putAll_2 : decode cX2_putAll 2 = .ok (.iload_n 2, 1) := dk_28 (dk_at dksX2_putAll_0 2 rfl rfl)
theorem dX2_putAll_3 : decode cX2_putAll 3 = .ok (.aload_n 1, 1) := dk_43 (dk_at dksX2_putAll_0 3 rfl rfl)
theorem dX2_putAll_4 : decode cX2_putAll 4 = .ok (.getfield 10, 3) := dk_180 0 10 (dk_at dksX2_putAll_0 4 rfl rfl)
theorem dX2_putAll_7 : decode cX2_putAll 7 = .ok (.invokeinterface 20 1, 5) := by decide +kernel
theorem dX2_putAll_12 : decode cX2_putAll 12 = .ok (.if_icmp .ge 23, 3) := dk_162 0 23 (dk_at dksX2_putAll_0 12 rfl rfl)
theorem dX2_putAll_15 : decode cX2_putAll 15 = .ok (.aload_n 0, 1) := dk_42 (dk_at dksX2_putAll_0 15 rfl rfl)
theorem dX2_putAll_16 : decode cX2_putAll 16 = .ok (.aload_n 1, 1) := dk_43 (dk_at dksX2_putAll_0 16 rfl rfl)
theorem dX2_putAll_17 : decode cX2_putAll 17 = .ok (.getfield 10, 3) := dk_180 0 10 (dk_at dksX2_putAll_0 17 rfl rfl)
theorem dX2_putAll_20 : decode cX2_putAll 20 = .ok (.iload_n 2, 1) := dk_28 (dk_at dksX2_putAll_0 20 rfl rfl)
theorem dX2_putAll_21 : decode cX2_putAll 21 = .ok (.invokeinterface 34 2, 5) := by decide +kernel
theorem dX2_putAll_26 : decode cX2_putAll 26 = .ok (.invokevirtual 37, 3) := dk_182 0 37 (dk_at dksX2_putAll_1 5 rfl rfl)
theorem dX2_putAll_29 : decode cX2_putAll 29 = .ok (.iinc 2 1, 3) := dk_132 2 1 (dk_at dksX2_putAll_1 8 rfl rfl)
theorem dX2_putAll_32 : decode cX2_putAll 32 = .ok (.goto (-30), 3) := dk_167 255 226 (dk_at dksX2_putAll_1 11 rfl rfl)
theorem dX2_putAll_35 : decode cX2_putAll 35 = .ok (.return_, 1) := dk_177 (dk_at dksX2_putAll_1 14 rfl rfl)
abbrev cX2_put : ByteArray := prog_3_method_2_code
def yX2_put : MethodName := ⟨RX2, "put", "(Ljava/lang/Object;)V"⟩
def dkwX2_put_1 : List UInt8 := [185, 0, 26, 2, 0, 87, 42, 180, 0, 10, 43, 185, 0, 30, 2, 0, 87, 177]
abbrev dktX2_put_1 : List UInt8 := dkwX2_put_1 ++ []
def dkwX2_put_0 : List UInt8 := [42, 180, 0, 10, 185, 0, 20, 1, 0, 42, 180, 0, 16, 160, 0, 14, 42, 180, 0, 10, 3]
abbrev dktX2_put_0 : List UInt8 := dkwX2_put_0 ++ dktX2_put_1
theorem dksX2_put_0 : cX2_put.data.toList.drop 0 = dktX2_put_0 := by decide +kernel
theorem dksX2_put_1 : cX2_put.data.toList.drop 21 = dktX2_put_1 := dk_seg dksX2_put_0 21 rfl rfl
theorem dX2_put_0 : decode cX2_put 0 = .ok (.aload_n 0, 1) := dk_42 (dk_at dksX2_put_0 0 rfl rfl)
theorem dX2_put_1 : decode cX2_put 1 = .ok (.getfield 10, 3) := dk_180 0 10 (dk_at dksX2_put_0 1 rfl rfl)
theorem dX2_put_4 : decode cX2_put 4 = .ok (.invokeinterface 20 1, 5) := by decide +kernel
theorem dX2_put_9 : decode cX2_put 9 = .ok (.aload_n 0, 1) := dk_42 (dk_at dksX2_put_0 9 rfl rfl)
theorem dX2_put_10 : decode cX2_put 10 = .ok (.getfield 16, 3) := dk_180 0 16 (dk_at dksX2_put_0 10 rfl rfl)
theorem dX2_put_13 : decode cX2_put 13 = .ok (.if_icmp .ne 14, 3) := dk_160 0 14 (dk_at dksX2_put_0 13 rfl rfl)
theorem dX2_put_16 : decode cX2_put 16 = .ok (.aload_n 0, 1) := dk_42 (dk_at dksX2_put_0 16 rfl rfl)
theorem dX2_put_17 : decode cX2_put 17 = .ok (.getfield 10, 3) := dk_180 0 10 (dk_at dksX2_put_0 17 rfl rfl)
theorem dX2_put_20 : decode cX2_put 20 = .ok (.iconst 0, 1) := dk_3 (dk_at dksX2_put_0 20 rfl rfl)
theorem dX2_put_21 : decode cX2_put 21 = .ok (.invokeinterface 26 2, 5) := by decide +kernel
theorem dX2_put_26 : decode cX2_put 26 = .ok (.pop, 1) := dk_87 (dk_at dksX2_put_1 5 rfl rfl)
theorem dX2_put_27 : decode cX2_put 27 = .ok (.aload_n 0, 1) := dk_42 (dk_at dksX2_put_1 6 rfl rfl)
theorem dX2_put_28 : decode cX2_put 28 = .ok (.getfield 10, 3) := dk_180 0 10 (dk_at dksX2_put_1 7 rfl rfl)
theorem dX2_put_31 : decode cX2_put 31 = .ok (.aload_n 1, 1) := dk_43 (dk_at dksX2_put_1 10 rfl rfl)
theorem dX2_put_32 : decode cX2_put 32 = .ok (.invokeinterface 30 2, 5) := by decide +kernel
theorem dX2_put_37 : decode cX2_put 37 = .ok (.pop, 1) := dk_87 (dk_at dksX2_put_1 16 rfl rfl)
theorem dX2_put_38 : decode cX2_put 38 = .ok (.return_, 1) := dk_177 (dk_at dksX2_put_1 17 rfl rfl)
abbrev cX2_back : ByteArray := prog_3_method_3_code
def yX2_back : MethodName := ⟨RX2, "back", "(I)Ljava/lang/Object;"⟩
def dkwX2_back_1 : List UInt8 := [185, 0, 20, 1, 0, 4, 100, 27, 100, 185, 0, 34, 2, 0, 167, 0, 4, 1, 176]
abbrev dktX2_back_1 : List UInt8 := dkwX2_back_1 ++ []
def dkwX2_back_0 : List UInt8 := [27, 42, 180, 0, 10, 185, 0, 20, 1, 0, 162, 0, 28, 42, 180, 0, 10, 42, 180, 0, 10]
abbrev dktX2_back_0 : List UInt8 := dkwX2_back_0 ++ dktX2_back_1
theorem dksX2_back_0 : cX2_back.data.toList.drop 0 = dktX2_back_0 := by decide +kernel
theorem dksX2_back_1 : cX2_back.data.toList.drop 21 = dktX2_back_1 := dk_seg dksX2_back_0 21 rfl rfl
theorem dX2_back_0 : decode cX2_back 0 = .ok (.iload_n 1, 1) := dk_27 (dk_at dksX2_back_0 0 rfl rfl)
theorem dX2_back_1 : decode cX2_back 1 = .ok (.aload_n 0, 1) := dk_42 (dk_at dksX2_back_0 1 rfl rfl)
theorem dX2_back_2 : decode cX2_back 2 = .ok (.getfield 10, 3) := dk_180 0 10 (dk_at dksX2_back_0 2 rfl rfl)
theorem dX2_back_5 : decode cX2_back 5 = .ok (.invokeinterface 20 1, 5) := by decide +kernel
theorem dX2_back_10 : decode cX2_back 10 = .ok (.if_icmp .ge 28, 3) := dk_162 0 28 (dk_at dksX2_back_0 10 rfl rfl)
theorem dX2_back_13 : decode cX2_back 13 = .ok (.aload_n 0, 1) := dk_42 (dk_at dksX2_back_0 13 rfl rfl)
theorem dX2_back_14 : decode cX2_back 14 = .ok (.getfield 10, 3) := dk_180 0 10 (dk_at dksX2_back_0 14 rfl rfl)
theorem dX2_back_17 : decode cX2_back 17 = .ok (.aload_n 0, 1) := dk_42 (dk_at dksX2_back_0 17 rfl rfl)
theorem dX2_back_18 : decode cX2_back 18 = .ok (.getfield 10, 3) := dk_180 0 10 (dk_at dksX2_back_0 18 rfl rfl)
theorem dX2_back_21 : decode cX2_back 21 = .ok (.invokeinterface 20 1, 5) := by decide +kernel
theorem dX2_back_26 : decode cX2_back 26 = .ok (.iconst 1, 1) := dk_4 (dk_at dksX2_back_1 5 rfl rfl)
theorem dX2_back_27 : decode cX2_back 27 = .ok (.isub, 1) := dk_100 (dk_at dksX2_back_1 6 rfl rfl)
theorem dX2_back_28 : decode cX2_back 28 = .ok (.iload_n 1, 1) := dk_27 (dk_at dksX2_back_1 7 rfl rfl)
theorem dX2_back_29 : decode cX2_back 29 = .ok (.isub, 1) := dk_100 (dk_at dksX2_back_1 8 rfl rfl)
theorem dX2_back_30 : decode cX2_back 30 = .ok (.invokeinterface 34 2, 5) := by decide +kernel
theorem dX2_back_35 : decode cX2_back 35 = .ok (.goto 4, 3) := dk_167 0 4 (dk_at dksX2_back_1 14 rfl rfl)
theorem dX2_back_38 : decode cX2_back 38 = .ok (.aconst_null, 1) := dk_1 (dk_at dksX2_back_1 17 rfl rfl)
theorem dX2_back_39 : decode cX2_back 39 = .ok (.areturn, 1) := dk_176 (dk_at dksX2_back_1 18 rfl rfl)
theorem q62 : (Jvm.Cond.initialized "BlanketKeys$Latest") ∈ lw_all := lw_g (lw_at lw_m1 6 rfl) rfl
theorem q129 : (Jvm.Cond.instantiable "BlanketKeys$Latest" (2 : Nat)) ∈ lw_all := lw_g (lw_at lw_m1 73 rfl) rfl
theorem q131 : (Jvm.Cond.instanceMethod ({ cls := "BlanketKeys$Latest", name := "<init>", desc := "(I)V" } : Jvm.MethodName)) ∈ lw_all := lw_g (lw_at lw_m1 75 rfl) rfl
theorem q132 : (Jvm.Cond.code ({ cls := "BlanketKeys$Latest", name := "<init>", desc := "(I)V" } : Jvm.MethodName) prog_3_method_1_code (2 : Nat) (Option.none : Option Jvm.ClassFile.FieldType)) ∈ lw_all := lw_g (lw_at lw_m1 76 rfl) rfl
theorem q133 : (Jvm.Cond.methodLink "BlanketKeys$Latest" (1 : Nat) ({ cls := "java/lang/Object", name := "<init>", desc := "()V" } : Jvm.MethodName)) ∈ lw_all := lw_g (lw_at lw_m1 77 rfl) rfl
theorem q134 : (Jvm.Cond.classLink "BlanketKeys$Latest" (7 : Nat) "java/util/ArrayList") ∈ lw_all := lw_g (lw_at lw_m1 78 rfl) rfl
theorem q135 : (Jvm.Cond.methodLink "BlanketKeys$Latest" (9 : Nat) ({ cls := "java/util/ArrayList", name := "<init>", desc := "()V" } : Jvm.MethodName)) ∈ lw_all := lw_g (lw_at lw_m1 79 rfl) rfl
theorem q136 : (Jvm.Cond.fieldLink "BlanketKeys$Latest" (16 : Nat) "BlanketKeys$Latest" "most" "I") ∈ lw_all := lw_g (lw_at lw_m1 80 rfl) rfl
theorem q137 : (Jvm.Cond.fieldLink "BlanketKeys$Latest" (10 : Nat) "BlanketKeys$Latest" "items" "Ljava/util/List;") ∈ lw_all := lw_g (lw_at lw_m1 81 rfl) rfl
theorem q139 : (Jvm.Cond.laysFinal "BlanketKeys$Latest" "BlanketKeys$Latest" "most" "I") ∈ lw_all := lw_g (lw_at lw_m1 83 rfl) rfl
theorem q140 : (Jvm.Cond.soleField "BlanketKeys$Latest" "most") ∈ lw_all := lw_g (lw_at lw_m1 84 rfl) rfl
theorem q141 : (Jvm.Cond.laysFinal "BlanketKeys$Latest" "BlanketKeys$Latest" "items" "Ljava/util/List;") ∈ lw_all := lw_g (lw_at lw_m1 85 rfl) rfl
theorem q142 : (Jvm.Cond.soleField "BlanketKeys$Latest" "items") ∈ lw_all := lw_g (lw_at lw_m1 86 rfl) rfl
theorem q143 : (Jvm.Cond.superclass "BlanketKeys$Latest" "java/lang/Object") ∈ lw_all := lw_g (lw_at lw_m1 87 rfl) rfl
theorem q213 : (Jvm.Cond.selects "BlanketKeys$Latest" ({ cls := "java/lang/Object", name := "getClass", desc := "()Ljava/lang/Class;" } : Jvm.MethodName) ({ cls := "java/lang/Object", name := "getClass", desc := "()Ljava/lang/Class;" } : Jvm.MethodName)) ∈ lw_all := lw_g (lw_at lw_m1 157 rfl) rfl
theorem q467 : (Jvm.Cond.instanceMethod ({ cls := "BlanketKeys$Latest", name := "putAll", desc := "(LBlanketKeys$Latest;)V" } : Jvm.MethodName)) ∈ lw_all := lw_g (lw_at lw_m2 171 rfl) rfl
theorem q468 : (Jvm.Cond.selects "BlanketKeys$Latest" ({ cls := "BlanketKeys$Latest", name := "putAll", desc := "(LBlanketKeys$Latest;)V" } : Jvm.MethodName) ({ cls := "BlanketKeys$Latest", name := "putAll", desc := "(LBlanketKeys$Latest;)V" } : Jvm.MethodName)) ∈ lw_all := lw_g (lw_at lw_m2 172 rfl) rfl
theorem q469 : (Jvm.Cond.code ({ cls := "BlanketKeys$Latest", name := "putAll", desc := "(LBlanketKeys$Latest;)V" } : Jvm.MethodName) prog_3_method_4_code (3 : Nat) (Option.none : Option Jvm.ClassFile.FieldType)) ∈ lw_all := lw_g (lw_at lw_m2 173 rfl) rfl
theorem q470 : (Jvm.Cond.interfaceEntry "BlanketKeys$Latest" (20 : Nat)) ∈ lw_tbl := lw_at lw_m2 174 rfl
theorem q471 : (Jvm.Cond.methodLink "BlanketKeys$Latest" (20 : Nat) ({ cls := "java/util/List", name := "size", desc := "()I" } : Jvm.MethodName)) ∈ lw_all := lw_g (lw_at lw_m2 175 rfl) rfl
theorem q472 : (Jvm.Cond.interfaceEntry "BlanketKeys$Latest" (34 : Nat)) ∈ lw_tbl := lw_at lw_m2 176 rfl
theorem q473 : (Jvm.Cond.methodLink "BlanketKeys$Latest" (34 : Nat) ({ cls := "java/util/List", name := "get", desc := "(I)Ljava/lang/Object;" } : Jvm.MethodName)) ∈ lw_all := lw_g (lw_at lw_m2 177 rfl) rfl
theorem q474 : (Jvm.Cond.methodLink "BlanketKeys$Latest" (37 : Nat) ({ cls := "BlanketKeys$Latest", name := "put", desc := "(Ljava/lang/Object;)V" } : Jvm.MethodName)) ∈ lw_all := lw_g (lw_at lw_m2 178 rfl) rfl
theorem q475 : (Jvm.Cond.instanceMethod ({ cls := "BlanketKeys$Latest", name := "put", desc := "(Ljava/lang/Object;)V" } : Jvm.MethodName)) ∈ lw_all := lw_g (lw_at lw_m2 179 rfl) rfl
theorem q476 : (Jvm.Cond.selects "BlanketKeys$Latest" ({ cls := "BlanketKeys$Latest", name := "put", desc := "(Ljava/lang/Object;)V" } : Jvm.MethodName) ({ cls := "BlanketKeys$Latest", name := "put", desc := "(Ljava/lang/Object;)V" } : Jvm.MethodName)) ∈ lw_all := lw_g (lw_at lw_m2 180 rfl) rfl
theorem q477 : (Jvm.Cond.code ({ cls := "BlanketKeys$Latest", name := "put", desc := "(Ljava/lang/Object;)V" } : Jvm.MethodName) prog_3_method_2_code (2 : Nat) (Option.none : Option Jvm.ClassFile.FieldType)) ∈ lw_all := lw_g (lw_at lw_m2 181 rfl) rfl
theorem q478 : (Jvm.Cond.interfaceEntry "BlanketKeys$Latest" (26 : Nat)) ∈ lw_tbl := lw_at lw_m2 182 rfl
theorem q479 : (Jvm.Cond.methodLink "BlanketKeys$Latest" (26 : Nat) ({ cls := "java/util/List", name := "remove", desc := "(I)Ljava/lang/Object;" } : Jvm.MethodName)) ∈ lw_all := lw_g (lw_at lw_m2 183 rfl) rfl
theorem q492 : (Jvm.Cond.interfaceEntry "BlanketKeys$Latest" (30 : Nat)) ∈ lw_tbl := lw_at lw_m2 196 rfl
theorem q493 : (Jvm.Cond.methodLink "BlanketKeys$Latest" (30 : Nat) ({ cls := "java/util/List", name := "add", desc := "(Ljava/lang/Object;)Z" } : Jvm.MethodName)) ∈ lw_all := lw_g (lw_at lw_m2 197 rfl) rfl
theorem q1065 : (Jvm.Cond.instanceMethod ({ cls := "BlanketKeys$Latest", name := "back", desc := "(I)Ljava/lang/Object;" } : Jvm.MethodName)) ∈ lw_all := lw_g (lw_at lw_m5 49 rfl) rfl
theorem q1066 : (Jvm.Cond.selects "BlanketKeys$Latest" ({ cls := "BlanketKeys$Latest", name := "back", desc := "(I)Ljava/lang/Object;" } : Jvm.MethodName) ({ cls := "BlanketKeys$Latest", name := "back", desc := "(I)Ljava/lang/Object;" } : Jvm.MethodName)) ∈ lw_all := lw_g (lw_at lw_m5 50 rfl) rfl
theorem q1067 : (Jvm.Cond.code ({ cls := "BlanketKeys$Latest", name := "back", desc := "(I)Ljava/lang/Object;" } : Jvm.MethodName) prog_3_method_3_code (2 : Nat) (Option.some (Jvm.ClassFile.FieldType.object "java/lang/Object"))) ∈ lw_all := lw_g (lw_at lw_m5 51 rfl) rfl
theorem q1454 : (Jvm.Cond.castable "BlanketKeys$Latest" "java/lang/Object") ∈ lw_tbl := lw_at lw_m6 198 rfl
theorem in_X2 : ∀ w ∈ wsX20, w ∈ lw_all := lw_in wsX20 [139, 141] (by decide +kernel) (by decide +kernel)
/-! BlanketKeys$Style -/
set_option maxRecDepth 100000
def RX3 : String := "BlanketKeys$Style"
def TX3 : u_T := fun k => match k with
  | 0 => ("BlanketKeys$Style", "dwell", "F", false)
  | 1 => ("BlanketKeys$Style", "gap", "F", false)
  | _ => ("BlanketKeys$Style", "last", "I", false)
def tyX3 : Nat → FieldType := fun k => match k with
  | 0 => .float
  | 1 => .float
  | _ => .int
abbrev wsX30 : List Cond := u_ws RX3 TX3 3
theorem nmX3 : ∀ a, a < 3 → ∀ b, b < 3 → a ≠ b → (TX3 a).2.1 ≠ (TX3 b).2.1 := by decide +kernel
theorem tyX3_ok : ∀ k, k < 3 → parseFieldDescriptor (TX3 k).2.2.1 = some (tyX3 k) := by decide +kernel
abbrev cX3_init : ByteArray := prog_8_method_1_code
def yX3_init : MethodName := ⟨RX3, "<init>", "(FF)V"⟩
def dkwX3_init_0 : List UInt8 := [42, 183, 0, 3, 42, 16, 251, 181, 0, 9, 42, 35, 181, 0, 15, 42, 36, 181, 0, 19, 177]
abbrev dktX3_init_0 : List UInt8 := dkwX3_init_0 ++ []
theorem dksX3_init_0 : cX3_init.data.toList.drop 0 = dktX3_init_0 := by decide +kernel
theorem dX3_init_0 : decode cX3_init 0 = .ok (.aload_n 0, 1) := dk_42 (dk_at dksX3_init_0 0 rfl rfl)
theorem dX3_init_1 : decode cX3_init 1 = .ok (.invokespecial 3, 3) := dk_183 0 3 (dk_at dksX3_init_0 1 rfl rfl)
theorem dX3_init_4 : decode cX3_init 4 = .ok (.aload_n 0, 1) := dk_42 (dk_at dksX3_init_0 4 rfl rfl)
theorem dX3_init_5 : decode cX3_init 5 = .ok (.bipush (-5), 2) := dk_16 251 (dk_at dksX3_init_0 5 rfl rfl)
theorem dX3_init_7 : decode cX3_init 7 = .ok (.putfield 9, 3) := dk_181 0 9 (dk_at dksX3_init_0 7 rfl rfl)
theorem dX3_init_10 : decode cX3_init 10 = .ok (.aload_n 0, 1) := dk_42 (dk_at dksX3_init_0 10 rfl rfl)
theorem dX3_init_11 : decode cX3_init 11 = .ok (.fload_n 1, 1) := dk_35 (dk_at dksX3_init_0 11 rfl rfl)
theorem dX3_init_12 : decode cX3_init 12 = .ok (.putfield 15, 3) := dk_181 0 15 (dk_at dksX3_init_0 12 rfl rfl)
theorem dX3_init_15 : decode cX3_init 15 = .ok (.aload_n 0, 1) := dk_42 (dk_at dksX3_init_0 15 rfl rfl)
theorem dX3_init_16 : decode cX3_init 16 = .ok (.fload_n 2, 1) := dk_36 (dk_at dksX3_init_0 16 rfl rfl)
theorem dX3_init_17 : decode cX3_init 17 = .ok (.putfield 19, 3) := dk_181 0 19 (dk_at dksX3_init_0 17 rfl rfl)
theorem dX3_init_20 : decode cX3_init 20 = .ok (.return_, 1) := dk_177 (dk_at dksX3_init_0 20 rfl rfl)
abbrev cX3_copy : ByteArray := prog_8_method_2_code
def yX3_copy : MethodName := ⟨RX3, "copy", "()LBlanketKeys$Style;"⟩
def dkwX3_copy_1 : List UInt8 := [43, 176]
abbrev dktX3_copy_1 : List UInt8 := dkwX3_copy_1 ++ []
def dkwX3_copy_0 : List UInt8 := [187, 0, 10, 89, 42, 180, 0, 15, 42, 180, 0, 19, 183, 0, 22, 76, 43, 42, 180, 0, 9, 181, 0, 9]
abbrev dktX3_copy_0 : List UInt8 := dkwX3_copy_0 ++ dktX3_copy_1
theorem dksX3_copy_0 : cX3_copy.data.toList.drop 0 = dktX3_copy_0 := by decide +kernel
theorem dksX3_copy_1 : cX3_copy.data.toList.drop 24 = dktX3_copy_1 := dk_seg dksX3_copy_0 24 rfl rfl
theorem dX3_copy_0 : decode cX3_copy 0 = .ok (.new 10, 3) := dk_187 0 10 (dk_at dksX3_copy_0 0 rfl rfl)
theorem dX3_copy_3 : decode cX3_copy 3 = .ok (.dup, 1) := dk_89 (dk_at dksX3_copy_0 3 rfl rfl)
theorem dX3_copy_4 : decode cX3_copy 4 = .ok (.aload_n 0, 1) := dk_42 (dk_at dksX3_copy_0 4 rfl rfl)
theorem dX3_copy_5 : decode cX3_copy 5 = .ok (.getfield 15, 3) := dk_180 0 15 (dk_at dksX3_copy_0 5 rfl rfl)
theorem dX3_copy_8 : decode cX3_copy 8 = .ok (.aload_n 0, 1) := dk_42 (dk_at dksX3_copy_0 8 rfl rfl)
theorem dX3_copy_9 : decode cX3_copy 9 = .ok (.getfield 19, 3) := dk_180 0 19 (dk_at dksX3_copy_0 9 rfl rfl)
theorem dX3_copy_12 : decode cX3_copy 12 = .ok (.invokespecial 22, 3) := dk_183 0 22 (dk_at dksX3_copy_0 12 rfl rfl)
theorem dX3_copy_15 : decode cX3_copy 15 = .ok (.astore_n 1, 1) := dk_76 (dk_at dksX3_copy_0 15 rfl rfl)
theorem dX3_copy_16 : decode cX3_copy 16 = .ok (.aload_n 1, 1) := dk_43 (dk_at dksX3_copy_0 16 rfl rfl)
theorem dX3_copy_17 : decode cX3_copy 17 = .ok (.aload_n 0, 1) := dk_42 (dk_at dksX3_copy_0 17 rfl rfl)
theorem dX3_copy_18 : decode cX3_copy 18 = .ok (.getfield 9, 3) := dk_180 0 9 (dk_at dksX3_copy_0 18 rfl rfl)
theorem dX3_copy_21 : decode cX3_copy 21 = .ok (.putfield 9, 3) := dk_181 0 9 (dk_at dksX3_copy_0 21 rfl rfl)
theorem dX3_copy_24 : decode cX3_copy 24 = .ok (.aload_n 1, 1) := dk_43 (dk_at dksX3_copy_1 0 rfl rfl)
theorem dX3_copy_25 : decode cX3_copy 25 = .ok (.areturn, 1) := dk_176 (dk_at dksX3_copy_1 1 rfl rfl)
abbrev cX3_distance : ByteArray := prog_8_method_4_code
def yX3_distance : MethodName := ⟨RX3, "distance", "(II)F"⟩
def dkwX3_distance_2 : List UInt8 := [180, 0, 19, 110, 18, 38, 106, 98, 174]
abbrev dktX3_distance_2 : List UInt8 := dkwX3_distance_2 ++ []
def dkwX3_distance_1 : List UInt8 := [160, 0, 7, 37, 167, 0, 27, 37, 42, 27, 182, 0, 35, 134, 42, 180, 0, 19, 102, 184, 0, 31, 42]
abbrev dktX3_distance_1 : List UInt8 := dkwX3_distance_1 ++ dktX3_distance_2
def dkwX3_distance_0 : List UInt8 := [28, 134, 42, 180, 0, 15, 102, 184, 0, 31, 42, 180, 0, 15, 110, 70, 42, 180, 0, 9, 16, 251]
abbrev dktX3_distance_0 : List UInt8 := dkwX3_distance_0 ++ dktX3_distance_1
theorem dksX3_distance_0 : cX3_distance.data.toList.drop 0 = dktX3_distance_0 := by decide +kernel
theorem dksX3_distance_1 : cX3_distance.data.toList.drop 22 = dktX3_distance_1 := dk_seg dksX3_distance_0 22 rfl rfl
theorem dksX3_distance_2 : cX3_distance.data.toList.drop 45 = dktX3_distance_2 := dk_seg dksX3_distance_1 23 rfl rfl
theorem dX3_distance_0 : decode cX3_distance 0 = .ok (.iload_n 2, 1) := dk_28 (dk_at dksX3_distance_0 0 rfl rfl)
theorem dX3_distance_1 : decode cX3_distance 1 = .ok (.i2f, 1) := dk_134 (dk_at dksX3_distance_0 1 rfl rfl)
theorem dX3_distance_2 : decode cX3_distance 2 = .ok (.aload_n 0, 1) := dk_42 (dk_at dksX3_distance_0 2 rfl rfl)
theorem dX3_distance_3 : decode cX3_distance 3 = .ok (.getfield 15, 3) := dk_180 0 15 (dk_at dksX3_distance_0 3 rfl rfl)
theorem dX3_distance_6 : decode cX3_distance 6 = .ok (.fsub, 1) := dk_102 (dk_at dksX3_distance_0 6 rfl rfl)
theorem dX3_distance_7 : decode cX3_distance 7 = .ok (.invokestatic 31, 3) := dk_184 0 31 (dk_at dksX3_distance_0 7 rfl rfl)
theorem dX3_distance_10 : decode cX3_distance 10 = .ok (.aload_n 0, 1) := dk_42 (dk_at dksX3_distance_0 10 rfl rfl)
theorem dX3_distance_11 : decode cX3_distance 11 = .ok (.getfield 15, 3) := dk_180 0 15 (dk_at dksX3_distance_0 11 rfl rfl)
theorem dX3_distance_14 : decode cX3_distance 14 = .ok (.fdiv, 1) := dk_110 (dk_at dksX3_distance_0 14 rfl rfl)
theorem dX3_distance_15 : decode cX3_distance 15 = .ok (.fstore_n 3, 1) := dk_70 (dk_at dksX3_distance_0 15 rfl rfl)
theorem dX3_distance_16 : decode cX3_distance 16 = .ok (.aload_n 0, 1) := dk_42 (dk_at dksX3_distance_0 16 rfl rfl)
theorem dX3_distance_17 : decode cX3_distance 17 = .ok (.getfield 9, 3) := dk_180 0 9 (dk_at dksX3_distance_0 17 rfl rfl)
theorem dX3_distance_20 : decode cX3_distance 20 = .ok (.bipush (-5), 2) := dk_16 251 (dk_at dksX3_distance_0 20 rfl rfl)
theorem dX3_distance_22 : decode cX3_distance 22 = .ok (.if_icmp .ne 7, 3) := dk_160 0 7 (dk_at dksX3_distance_1 0 rfl rfl)
theorem dX3_distance_25 : decode cX3_distance 25 = .ok (.fload_n 3, 1) := dk_37 (dk_at dksX3_distance_1 3 rfl rfl)
theorem dX3_distance_26 : decode cX3_distance 26 = .ok (.goto 27, 3) := dk_167 0 27 (dk_at dksX3_distance_1 4 rfl rfl)
theorem dX3_distance_29 : decode cX3_distance 29 = .ok (.fload_n 3, 1) := dk_37 (dk_at dksX3_distance_1 7 rfl rfl)
theorem dX3_distance_30 : decode cX3_distance 30 = .ok (.aload_n 0, 1) := dk_42 (dk_at dksX3_distance_1 8 rfl rfl)
theorem dX3_distance_31 : decode cX3_distance 31 = .ok (.iload_n 1, 1) := dk_27 (dk_at dksX3_distance_1 9 rfl rfl)
theorem dX3_distance_32 : decode cX3_distance 32 = .ok (.invokevirtual 35, 3) := dk_182 0 35 (dk_at dksX3_distance_1 10 rfl rfl)
theorem dX3_distance_35 : decode cX3_distance 35 = .ok (.i2f, 1) := dk_134 (dk_at dksX3_distance_1 13 rfl rfl)
theorem dX3_distance_36 : decode cX3_distance 36 = .ok (.aload_n 0, 1) := dk_42 (dk_at dksX3_distance_1 14 rfl rfl)
theorem dX3_distance_37 : decode cX3_distance 37 = .ok (.getfield 19, 3) := dk_180 0 19 (dk_at dksX3_distance_1 15 rfl rfl)
theorem dX3_distance_40 : decode cX3_distance 40 = .ok (.fsub, 1) := dk_102 (dk_at dksX3_distance_1 18 rfl rfl)
theorem dX3_distance_41 : decode cX3_distance 41 = .ok (.invokestatic 31, 3) := dk_184 0 31 (dk_at dksX3_distance_1 19 rfl rfl)
theorem dX3_distance_44 : decode cX3_distance 44 = .ok (.aload_n 0, 1) := dk_42 (dk_at dksX3_distance_1 22 rfl rfl)
theorem dX3_distance_45 : decode cX3_distance 45 = .ok (.getfield 19, 3) := dk_180 0 19 (dk_at dksX3_distance_2 0 rfl rfl)
theorem dX3_distance_48 : decode cX3_distance 48 = .ok (.fdiv, 1) := dk_110 (dk_at dksX3_distance_2 3 rfl rfl)
theorem dX3_distance_49 : decode cX3_distance 49 = .ok (.ldc 38, 2) := dk_18 38 (dk_at dksX3_distance_2 4 rfl rfl)
theorem dX3_distance_51 : decode cX3_distance 51 = .ok (.fmul, 1) := dk_106 (dk_at dksX3_distance_2 6 rfl rfl)
theorem dX3_distance_52 : decode cX3_distance 52 = .ok (.fadd, 1) := dk_98 (dk_at dksX3_distance_2 7 rfl rfl)
theorem dX3_distance_53 : decode cX3_distance 53 = .ok (.freturn, 1) := dk_174 (dk_at dksX3_distance_2 8 rfl rfl)
abbrev cX3_gapTo : ByteArray := prog_8_method_3_code
def yX3_gapTo : MethodName := ⟨RX3, "gapTo", "(I)I"⟩
def dkwX3_gapTo_0 : List UInt8 := [27, 42, 180, 0, 9, 100, 184, 0, 25, 172]
abbrev dktX3_gapTo_0 : List UInt8 := dkwX3_gapTo_0 ++ []
theorem dksX3_gapTo_0 : cX3_gapTo.data.toList.drop 0 = dktX3_gapTo_0 := by decide +kernel
theorem dX3_gapTo_0 : decode cX3_gapTo 0 = .ok (.iload_n 1, 1) := dk_27 (dk_at dksX3_gapTo_0 0 rfl rfl)
theorem dX3_gapTo_1 : decode cX3_gapTo 1 = .ok (.aload_n 0, 1) := dk_42 (dk_at dksX3_gapTo_0 1 rfl rfl)
theorem dX3_gapTo_2 : decode cX3_gapTo 2 = .ok (.getfield 9, 3) := dk_180 0 9 (dk_at dksX3_gapTo_0 2 rfl rfl)
theorem dX3_gapTo_5 : decode cX3_gapTo 5 = .ok (.isub, 1) := dk_100 (dk_at dksX3_gapTo_0 5 rfl rfl)
theorem dX3_gapTo_6 : decode cX3_gapTo 6 = .ok (.invokestatic 25, 3) := dk_184 0 25 (dk_at dksX3_gapTo_0 6 rfl rfl)
theorem dX3_gapTo_9 : decode cX3_gapTo 9 = .ok (.ireturn, 1) := dk_172 (dk_at dksX3_gapTo_0 9 rfl rfl)
abbrev cX3_learn : ByteArray := prog_8_method_5_code
def yX3_learn : MethodName := ⟨RX3, "learn", "(IIF)V"⟩
def dkwX3_learn_2 : List UInt8 := [37, 106, 98, 184, 0, 39, 181, 0, 19, 42, 27, 181, 0, 9, 177]
abbrev dktX3_learn_2 : List UInt8 := dkwX3_learn_2 ++ []
def dkwX3_learn_1 : List UInt8 := [180, 0, 9, 16, 251, 159, 0, 28, 42, 42, 180, 0, 19, 42, 27, 182, 0, 35, 134, 42, 180, 0, 19, 102]
abbrev dktX3_learn_1 : List UInt8 := dkwX3_learn_1 ++ dktX3_learn_2
def dkwX3_learn_0 : List UInt8 := [42, 42, 180, 0, 15, 28, 134, 42, 180, 0, 15, 102, 37, 106, 98, 184, 0, 39, 181, 0, 15, 42]
abbrev dktX3_learn_0 : List UInt8 := dkwX3_learn_0 ++ dktX3_learn_1
theorem dksX3_learn_0 : cX3_learn.data.toList.drop 0 = dktX3_learn_0 := by decide +kernel
theorem dksX3_learn_1 : cX3_learn.data.toList.drop 22 = dktX3_learn_1 := dk_seg dksX3_learn_0 22 rfl rfl
theorem dksX3_learn_2 : cX3_learn.data.toList.drop 46 = dktX3_learn_2 := dk_seg dksX3_learn_1 24 rfl rfl
theorem dX3_learn_0 : decode cX3_learn 0 = .ok (.aload_n 0, 1) := dk_42 (dk_at dksX3_learn_0 0 rfl rfl)
theorem dX3_learn_1 : decode cX3_learn 1 = .ok (.aload_n 0, 1) := dk_42 (dk_at dksX3_learn_0 1 rfl rfl)
theorem dX3_learn_2 : decode cX3_learn 2 = .ok (.getfield 15, 3) := dk_180 0 15 (dk_at dksX3_learn_0 2 rfl rfl)
theorem dX3_learn_5 : decode cX3_learn 5 = .ok (.iload_n 2, 1) := dk_28 (dk_at dksX3_learn_0 5 rfl rfl)
theorem dX3_learn_6 : decode cX3_learn 6 = .ok (.i2f, 1) := dk_134 (dk_at dksX3_learn_0 6 rfl rfl)
theorem dX3_learn_7 : decode cX3_learn 7 = .ok (.aload_n 0, 1) := dk_42 (dk_at dksX3_learn_0 7 rfl rfl)
theorem dX3_learn_8 : decode cX3_learn 8 = .ok (.getfield 15, 3) := dk_180 0 15 (dk_at dksX3_learn_0 8 rfl rfl)
theorem dX3_learn_11 : decode cX3_learn 11 = .ok (.fsub, 1) := dk_102 (dk_at dksX3_learn_0 11 rfl rfl)
theorem dX3_learn_12 : decode cX3_learn 12 = .ok (.fload_n 3, 1) := dk_37 (dk_at dksX3_learn_0 12 rfl rfl)
theorem dX3_learn_13 : decode cX3_learn 13 = .ok (.fmul, 1) := dk_106 (dk_at dksX3_learn_0 13 rfl rfl)
theorem dX3_learn_14 : decode cX3_learn 14 = .ok (.fadd, 1) := dk_98 (dk_at dksX3_learn_0 14 rfl rfl)
theorem dX3_learn_15 : decode cX3_learn 15 = .ok (.invokestatic 39, 3) := dk_184 0 39 (dk_at dksX3_learn_0 15 rfl rfl)
theorem dX3_learn_18 : decode cX3_learn 18 = .ok (.putfield 15, 3) := dk_181 0 15 (dk_at dksX3_learn_0 18 rfl rfl)
theorem dX3_learn_21 : decode cX3_learn 21 = .ok (.aload_n 0, 1) := dk_42 (dk_at dksX3_learn_0 21 rfl rfl)
theorem dX3_learn_22 : decode cX3_learn 22 = .ok (.getfield 9, 3) := dk_180 0 9 (dk_at dksX3_learn_1 0 rfl rfl)
theorem dX3_learn_25 : decode cX3_learn 25 = .ok (.bipush (-5), 2) := dk_16 251 (dk_at dksX3_learn_1 3 rfl rfl)
theorem dX3_learn_27 : decode cX3_learn 27 = .ok (.if_icmp .eq 28, 3) := dk_159 0 28 (dk_at dksX3_learn_1 5 rfl rfl)
theorem dX3_learn_30 : decode cX3_learn 30 = .ok (.aload_n 0, 1) := dk_42 (dk_at dksX3_learn_1 8 rfl rfl)
theorem dX3_learn_31 : decode cX3_learn 31 = .ok (.aload_n 0, 1) := dk_42 (dk_at dksX3_learn_1 9 rfl rfl)
theorem dX3_learn_32 : decode cX3_learn 32 = .ok (.getfield 19, 3) := dk_180 0 19 (dk_at dksX3_learn_1 10 rfl rfl)
theorem dX3_learn_35 : decode cX3_learn 35 = .ok (.aload_n 0, 1) := dk_42 (dk_at dksX3_learn_1 13 rfl rfl)
theorem dX3_learn_36 : decode cX3_learn 36 = .ok (.iload_n 1, 1) := dk_27 (dk_at dksX3_learn_1 14 rfl rfl)
theorem dX3_learn_37 : decode cX3_learn 37 = .ok (.invokevirtual 35, 3) := dk_182 0 35 (dk_at dksX3_learn_1 15 rfl rfl)
theorem dX3_learn_40 : decode cX3_learn 40 = .ok (.i2f, 1) := dk_134 (dk_at dksX3_learn_1 18 rfl rfl)
theorem dX3_learn_41 : decode cX3_learn 41 = .ok (.aload_n 0, 1) := dk_42 (dk_at dksX3_learn_1 19 rfl rfl)
theorem dX3_learn_42 : decode cX3_learn 42 = .ok (.getfield 19, 3) := dk_180 0 19 (dk_at dksX3_learn_1 20 rfl rfl)
theorem dX3_learn_45 : decode cX3_learn 45 = .ok (.fsub, 1) := dk_102 (dk_at dksX3_learn_1 23 rfl rfl)
theorem dX3_learn_46 : decode cX3_learn 46 = .ok (.fload_n 3, 1) := dk_37 (dk_at dksX3_learn_2 0 rfl rfl)
theorem dX3_learn_47 : decode cX3_learn 47 = .ok (.fmul, 1) := dk_106 (dk_at dksX3_learn_2 1 rfl rfl)
theorem dX3_learn_48 : decode cX3_learn 48 = .ok (.fadd, 1) := dk_98 (dk_at dksX3_learn_2 2 rfl rfl)
theorem dX3_learn_49 : decode cX3_learn 49 = .ok (.invokestatic 39, 3) := dk_184 0 39 (dk_at dksX3_learn_2 3 rfl rfl)
theorem dX3_learn_52 : decode cX3_learn 52 = .ok (.putfield 19, 3) := dk_181 0 19 (dk_at dksX3_learn_2 6 rfl rfl)
theorem dX3_learn_55 : decode cX3_learn 55 = .ok (.aload_n 0, 1) := dk_42 (dk_at dksX3_learn_2 9 rfl rfl)
theorem dX3_learn_56 : decode cX3_learn 56 = .ok (.iload_n 1, 1) := dk_27 (dk_at dksX3_learn_2 10 rfl rfl)
theorem dX3_learn_57 : decode cX3_learn 57 = .ok (.putfield 9, 3) := dk_181 0 9 (dk_at dksX3_learn_2 11 rfl rfl)
theorem dX3_learn_60 : decode cX3_learn 60 = .ok (.return_, 1) := dk_177 (dk_at dksX3_learn_2 14 rfl rfl)
abbrev cX3_atLeast : ByteArray := prog_8_method_6_code
def yX3_atLeast : MethodName := ⟨RX3, "atLeast", "(F)F"⟩
def dkwX3_atLeast_0 : List UInt8 := [34, 18, 38, 150, 156, 0, 8, 18, 38, 167, 0, 4, 34, 174]
abbrev dktX3_atLeast_0 : List UInt8 := dkwX3_atLeast_0 ++ []
theorem dksX3_atLeast_0 : cX3_atLeast.data.toList.drop 0 = dktX3_atLeast_0 := by decide +kernel
theorem dX3_atLeast_0 : decode cX3_atLeast 0 = .ok (.fload_n 0, 1) := dk_34 (dk_at dksX3_atLeast_0 0 rfl rfl)
theorem dX3_atLeast_1 : decode cX3_atLeast 1 = .ok (.ldc 38, 2) := dk_18 38 (dk_at dksX3_atLeast_0 1 rfl rfl)
theorem dX3_atLeast_3 : decode cX3_atLeast 3 = .ok (.fcmp .g, 1) := dk_150 (dk_at dksX3_atLeast_0 3 rfl rfl)
theorem dX3_atLeast_4 : decode cX3_atLeast 4 = .ok (.ifCond .ge 8, 3) := dk_156 0 8 (dk_at dksX3_atLeast_0 4 rfl rfl)
theorem dX3_atLeast_7 : decode cX3_atLeast 7 = .ok (.ldc 38, 2) := dk_18 38 (dk_at dksX3_atLeast_0 7 rfl rfl)
theorem dX3_atLeast_9 : decode cX3_atLeast 9 = .ok (.goto 4, 3) := dk_167 0 4 (dk_at dksX3_atLeast_0 9 rfl rfl)
theorem dX3_atLeast_12 : decode cX3_atLeast 12 = .ok (.fload_n 0, 1) := dk_34 (dk_at dksX3_atLeast_0 12 rfl rfl)
theorem dX3_atLeast_13 : decode cX3_atLeast 13 = .ok (.freturn, 1) := dk_174 (dk_at dksX3_atLeast_0 13 rfl rfl)
theorem q63 : (Jvm.Cond.initialized "BlanketKeys$Style") ∈ lw_all := lw_g (lw_at lw_m1 7 rfl) rfl
theorem q146 : (Jvm.Cond.instantiable "BlanketKeys$Style" (3 : Nat)) ∈ lw_all := lw_g (lw_at lw_m1 90 rfl) rfl
theorem q150 : (Jvm.Cond.instanceMethod ({ cls := "BlanketKeys$Style", name := "<init>", desc := "(FF)V" } : Jvm.MethodName)) ∈ lw_all := lw_g (lw_at lw_m1 94 rfl) rfl
theorem q151 : (Jvm.Cond.code ({ cls := "BlanketKeys$Style", name := "<init>", desc := "(FF)V" } : Jvm.MethodName) prog_8_method_1_code (3 : Nat) (Option.none : Option Jvm.ClassFile.FieldType)) ∈ lw_all := lw_g (lw_at lw_m1 95 rfl) rfl
theorem q152 : (Jvm.Cond.methodLink "BlanketKeys$Style" (3 : Nat) ({ cls := "java/lang/Object", name := "<init>", desc := "()V" } : Jvm.MethodName)) ∈ lw_all := lw_g (lw_at lw_m1 96 rfl) rfl
theorem q153 : (Jvm.Cond.fieldLink "BlanketKeys$Style" (15 : Nat) "BlanketKeys$Style" "dwell" "F") ∈ lw_all := lw_g (lw_at lw_m1 97 rfl) rfl
theorem q155 : (Jvm.Cond.fieldLink "BlanketKeys$Style" (19 : Nat) "BlanketKeys$Style" "gap" "F") ∈ lw_all := lw_g (lw_at lw_m1 99 rfl) rfl
theorem q157 : (Jvm.Cond.fieldLink "BlanketKeys$Style" (9 : Nat) "BlanketKeys$Style" "last" "I") ∈ lw_all := lw_g (lw_at lw_m1 101 rfl) rfl
theorem q159 : (Jvm.Cond.lays "BlanketKeys$Style" "BlanketKeys$Style" "dwell" "F") ∈ lw_all := lw_g (lw_at lw_m1 103 rfl) rfl
theorem q160 : (Jvm.Cond.soleField "BlanketKeys$Style" "dwell") ∈ lw_all := lw_g (lw_at lw_m1 104 rfl) rfl
theorem q161 : (Jvm.Cond.lays "BlanketKeys$Style" "BlanketKeys$Style" "gap" "F") ∈ lw_all := lw_g (lw_at lw_m1 105 rfl) rfl
theorem q162 : (Jvm.Cond.soleField "BlanketKeys$Style" "gap") ∈ lw_all := lw_g (lw_at lw_m1 106 rfl) rfl
theorem q163 : (Jvm.Cond.lays "BlanketKeys$Style" "BlanketKeys$Style" "last" "I") ∈ lw_all := lw_g (lw_at lw_m1 107 rfl) rfl
theorem q164 : (Jvm.Cond.soleField "BlanketKeys$Style" "last") ∈ lw_all := lw_g (lw_at lw_m1 108 rfl) rfl
theorem q165 : (Jvm.Cond.superclass "BlanketKeys$Style" "java/lang/Object") ∈ lw_all := lw_g (lw_at lw_m1 109 rfl) rfl
theorem q218 : (Jvm.Cond.selects "BlanketKeys$Style" ({ cls := "java/lang/Object", name := "getClass", desc := "()Ljava/lang/Class;" } : Jvm.MethodName) ({ cls := "java/lang/Object", name := "getClass", desc := "()Ljava/lang/Class;" } : Jvm.MethodName)) ∈ lw_all := lw_g (lw_at lw_m1 162 rfl) rfl
theorem q495 : (Jvm.Cond.instanceMethod ({ cls := "BlanketKeys$Style", name := "copy", desc := "()LBlanketKeys$Style;" } : Jvm.MethodName)) ∈ lw_all := lw_g (lw_at lw_m2 199 rfl) rfl
theorem q496 : (Jvm.Cond.selects "BlanketKeys$Style" ({ cls := "BlanketKeys$Style", name := "copy", desc := "()LBlanketKeys$Style;" } : Jvm.MethodName) ({ cls := "BlanketKeys$Style", name := "copy", desc := "()LBlanketKeys$Style;" } : Jvm.MethodName)) ∈ lw_all := lw_g (lw_at lw_m2 200 rfl) rfl
theorem q497 : (Jvm.Cond.code ({ cls := "BlanketKeys$Style", name := "copy", desc := "()LBlanketKeys$Style;" } : Jvm.MethodName) prog_8_method_2_code (2 : Nat) (Option.some (Jvm.ClassFile.FieldType.object "BlanketKeys$Style"))) ∈ lw_all := lw_g (lw_at lw_m2 201 rfl) rfl
theorem q498 : (Jvm.Cond.classLink "BlanketKeys$Style" (10 : Nat) "BlanketKeys$Style") ∈ lw_all := lw_g (lw_at lw_m2 202 rfl) rfl
theorem q499 : (Jvm.Cond.methodLink "BlanketKeys$Style" (22 : Nat) ({ cls := "BlanketKeys$Style", name := "<init>", desc := "(FF)V" } : Jvm.MethodName)) ∈ lw_all := lw_g (lw_at lw_m2 203 rfl) rfl
theorem q614 : (Jvm.Cond.instanceMethod ({ cls := "BlanketKeys$Style", name := "distance", desc := "(II)F" } : Jvm.MethodName)) ∈ lw_all := lw_g (lw_at lw_m3 78 rfl) rfl
theorem q615 : (Jvm.Cond.selects "BlanketKeys$Style" ({ cls := "BlanketKeys$Style", name := "distance", desc := "(II)F" } : Jvm.MethodName) ({ cls := "BlanketKeys$Style", name := "distance", desc := "(II)F" } : Jvm.MethodName)) ∈ lw_all := lw_g (lw_at lw_m3 79 rfl) rfl
theorem q616 : (Jvm.Cond.code ({ cls := "BlanketKeys$Style", name := "distance", desc := "(II)F" } : Jvm.MethodName) prog_8_method_4_code (4 : Nat) (Option.some Jvm.ClassFile.FieldType.float)) ∈ lw_all := lw_g (lw_at lw_m3 80 rfl) rfl
theorem q617 : (Jvm.Cond.methodLinkNest "BlanketKeys$Style" (31 : Nat) ({ cls := "BlanketKeys", name := "size", desc := "(F)F" } : Jvm.MethodName) "BlanketKeys") ∈ lw_tbl := lw_at lw_m3 81 rfl
theorem q620 : (Jvm.Cond.methodLink "BlanketKeys$Style" (35 : Nat) ({ cls := "BlanketKeys$Style", name := "gapTo", desc := "(I)I" } : Jvm.MethodName)) ∈ lw_all := lw_g (lw_at lw_m3 84 rfl) rfl
theorem q621 : (Jvm.Cond.privateMethod ({ cls := "BlanketKeys$Style", name := "gapTo", desc := "(I)I" } : Jvm.MethodName)) ∈ lw_tbl := lw_at lw_m3 85 rfl
theorem q622 : (Jvm.Cond.instanceMethod ({ cls := "BlanketKeys$Style", name := "gapTo", desc := "(I)I" } : Jvm.MethodName)) ∈ lw_all := lw_g (lw_at lw_m3 86 rfl) rfl
theorem q623 : (Jvm.Cond.code ({ cls := "BlanketKeys$Style", name := "gapTo", desc := "(I)I" } : Jvm.MethodName) prog_8_method_3_code (2 : Nat) (Option.some Jvm.ClassFile.FieldType.int)) ∈ lw_all := lw_g (lw_at lw_m3 87 rfl) rfl
theorem q624 : (Jvm.Cond.methodLink "BlanketKeys$Style" (25 : Nat) ({ cls := "java/lang/Math", name := "abs", desc := "(I)I" } : Jvm.MethodName)) ∈ lw_all := lw_g (lw_at lw_m3 88 rfl) rfl
theorem q627 : (Jvm.Cond.constantFloat "BlanketKeys$Style" (38 : Nat) (1056964608 : UInt32)) ∈ lw_all := lw_g (lw_at lw_m3 91 rfl) rfl
theorem q674 : (Jvm.Cond.instanceMethod ({ cls := "BlanketKeys$Style", name := "learn", desc := "(IIF)V" } : Jvm.MethodName)) ∈ lw_all := lw_g (lw_at lw_m3 138 rfl) rfl
theorem q675 : (Jvm.Cond.selects "BlanketKeys$Style" ({ cls := "BlanketKeys$Style", name := "learn", desc := "(IIF)V" } : Jvm.MethodName) ({ cls := "BlanketKeys$Style", name := "learn", desc := "(IIF)V" } : Jvm.MethodName)) ∈ lw_all := lw_g (lw_at lw_m3 139 rfl) rfl
theorem q676 : (Jvm.Cond.code ({ cls := "BlanketKeys$Style", name := "learn", desc := "(IIF)V" } : Jvm.MethodName) prog_8_method_5_code (4 : Nat) (Option.none : Option Jvm.ClassFile.FieldType)) ∈ lw_all := lw_g (lw_at lw_m3 140 rfl) rfl
theorem q677 : (Jvm.Cond.methodLink "BlanketKeys$Style" (39 : Nat) ({ cls := "BlanketKeys$Style", name := "atLeast", desc := "(F)F" } : Jvm.MethodName)) ∈ lw_all := lw_g (lw_at lw_m3 141 rfl) rfl
theorem q678 : (Jvm.Cond.static ({ cls := "BlanketKeys$Style", name := "atLeast", desc := "(F)F" } : Jvm.MethodName)) ∈ lw_all := lw_g (lw_at lw_m3 142 rfl) rfl
theorem q679 : (Jvm.Cond.code ({ cls := "BlanketKeys$Style", name := "atLeast", desc := "(F)F" } : Jvm.MethodName) prog_8_method_6_code (1 : Nat) (Option.some Jvm.ClassFile.FieldType.float)) ∈ lw_all := lw_g (lw_at lw_m3 143 rfl) rfl
theorem q1450 : (Jvm.Cond.castable "BlanketKeys$Style" "java/lang/Object") ∈ lw_tbl := lw_at lw_m6 194 rfl
theorem in_X3 : ∀ w ∈ wsX30, w ∈ lw_all := lw_in wsX30 [159, 161, 163] (by decide +kernel) (by decide +kernel)
/-! BlanketKeys$Key -/
set_option maxRecDepth 100000
def RX4 : String := "BlanketKeys$Key"
def TX4 : u_T := fun k => match k with
  | 0 => ("BlanketKeys$Key", "sign", "C", false)
  | 1 => ("BlanketKeys$Key", "shiftOf", "I", false)
  | 2 => ("BlanketKeys$Key", "holder", "I", false)
  | 3 => ("BlanketKeys$Key", "since", "I", false)
  | 4 => ("BlanketKeys$Key", "isDoubtful", "Z", false)
  | 5 => ("BlanketKeys$Key", "shifts", "I", false)
  | _ => ("BlanketKeys$Key", "trueHolder", "I", false)
def tyX4 : Nat → FieldType := fun k => match k with
  | 0 => .char
  | 1 => .int
  | 2 => .int
  | 3 => .int
  | 4 => .boolean
  | 5 => .int
  | _ => .int
abbrev wsX40 : List Cond := u_ws RX4 TX4 7
theorem nmX4 : ∀ a, a < 7 → ∀ b, b < 7 → a ≠ b → (TX4 a).2.1 ≠ (TX4 b).2.1 := by decide +kernel
theorem tyX4_ok : ∀ k, k < 7 → parseFieldDescriptor (TX4 k).2.2.1 = some (tyX4 k) := by decide +kernel
abbrev cX4_init : ByteArray := prog_2_method_1_code
def yX4_init : MethodName := ⟨RX4, "<init>", "()V"⟩
def dkwX4_init_1 : List UInt8 := [16, 251, 181, 0, 22, 42, 16, 251, 181, 0, 25, 177]
abbrev dktX4_init_1 : List UInt8 := dkwX4_init_1 ++ []
def dkwX4_init_0 : List UInt8 := [42, 183, 0, 3, 42, 16, 46, 181, 0, 9, 42, 16, 251, 181, 0, 15, 42, 16, 251, 181, 0, 19, 42]
abbrev dktX4_init_0 : List UInt8 := dkwX4_init_0 ++ dktX4_init_1
theorem dksX4_init_0 : cX4_init.data.toList.drop 0 = dktX4_init_0 := by decide +kernel
theorem dksX4_init_1 : cX4_init.data.toList.drop 23 = dktX4_init_1 := dk_seg dksX4_init_0 23 rfl rfl
theorem dX4_init_0 : decode cX4_init 0 = .ok (.aload_n 0, 1) := dk_42 (dk_at dksX4_init_0 0 rfl rfl)
theorem dX4_init_1 : decode cX4_init 1 = .ok (.invokespecial 3, 3) := dk_183 0 3 (dk_at dksX4_init_0 1 rfl rfl)
theorem dX4_init_4 : decode cX4_init 4 = .ok (.aload_n 0, 1) := dk_42 (dk_at dksX4_init_0 4 rfl rfl)
theorem dX4_init_5 : decode cX4_init 5 = .ok (.bipush 46, 2) := dk_16 46 (dk_at dksX4_init_0 5 rfl rfl)
theorem dX4_init_7 : decode cX4_init 7 = .ok (.putfield 9, 3) := dk_181 0 9 (dk_at dksX4_init_0 7 rfl rfl)
theorem dX4_init_10 : decode cX4_init 10 = .ok (.aload_n 0, 1) := dk_42 (dk_at dksX4_init_0 10 rfl rfl)
theorem dX4_init_11 : decode cX4_init 11 = .ok (.bipush (-5), 2) := dk_16 251 (dk_at dksX4_init_0 11 rfl rfl)
theorem dX4_init_13 : decode cX4_init 13 = .ok (.putfield 15, 3) := dk_181 0 15 (dk_at dksX4_init_0 13 rfl rfl)
theorem dX4_init_16 : decode cX4_init 16 = .ok (.aload_n 0, 1) := dk_42 (dk_at dksX4_init_0 16 rfl rfl)
theorem dX4_init_17 : decode cX4_init 17 = .ok (.bipush (-5), 2) := dk_16 251 (dk_at dksX4_init_0 17 rfl rfl)
theorem dX4_init_19 : decode cX4_init 19 = .ok (.putfield 19, 3) := dk_181 0 19 (dk_at dksX4_init_0 19 rfl rfl)
theorem dX4_init_22 : decode cX4_init 22 = .ok (.aload_n 0, 1) := dk_42 (dk_at dksX4_init_0 22 rfl rfl)
theorem dX4_init_23 : decode cX4_init 23 = .ok (.bipush (-5), 2) := dk_16 251 (dk_at dksX4_init_1 0 rfl rfl)
theorem dX4_init_25 : decode cX4_init 25 = .ok (.putfield 22, 3) := dk_181 0 22 (dk_at dksX4_init_1 2 rfl rfl)
theorem dX4_init_28 : decode cX4_init 28 = .ok (.aload_n 0, 1) := dk_42 (dk_at dksX4_init_1 5 rfl rfl)
theorem dX4_init_29 : decode cX4_init 29 = .ok (.bipush (-5), 2) := dk_16 251 (dk_at dksX4_init_1 6 rfl rfl)
theorem dX4_init_31 : decode cX4_init 31 = .ok (.putfield 25, 3) := dk_181 0 25 (dk_at dksX4_init_1 8 rfl rfl)
theorem dX4_init_34 : decode cX4_init 34 = .ok (.return_, 1) := dk_177 (dk_at dksX4_init_1 11 rfl rfl)
abbrev cX4_isDown : ByteArray := prog_2_method_3_code
def yX4_isDown : MethodName := ⟨RX4, "isDown", "()Z"⟩
def dkwX4_isDown_0 : List UInt8 := [42, 180, 0, 19, 16, 251, 159, 0, 7, 4, 167, 0, 4, 3, 172]
abbrev dktX4_isDown_0 : List UInt8 := dkwX4_isDown_0 ++ []
theorem dksX4_isDown_0 : cX4_isDown.data.toList.drop 0 = dktX4_isDown_0 := by decide +kernel
theorem dX4_isDown_0 : decode cX4_isDown 0 = .ok (.aload_n 0, 1) := dk_42 (dk_at dksX4_isDown_0 0 rfl rfl)
theorem dX4_isDown_1 : decode cX4_isDown 1 = .ok (.getfield 19, 3) := dk_180 0 19 (dk_at dksX4_isDown_0 1 rfl rfl)
theorem dX4_isDown_4 : decode cX4_isDown 4 = .ok (.bipush (-5), 2) := dk_16 251 (dk_at dksX4_isDown_0 4 rfl rfl)
theorem dX4_isDown_6 : decode cX4_isDown 6 = .ok (.if_icmp .eq 7, 3) := dk_159 0 7 (dk_at dksX4_isDown_0 6 rfl rfl)
theorem dX4_isDown_9 : decode cX4_isDown 9 = .ok (.iconst 1, 1) := dk_4 (dk_at dksX4_isDown_0 9 rfl rfl)
theorem dX4_isDown_10 : decode cX4_isDown 10 = .ok (.goto 4, 3) := dk_167 0 4 (dk_at dksX4_isDown_0 10 rfl rfl)
theorem dX4_isDown_13 : decode cX4_isDown 13 = .ok (.iconst 0, 1) := dk_3 (dk_at dksX4_isDown_0 13 rfl rfl)
theorem dX4_isDown_14 : decode cX4_isDown 14 = .ok (.ireturn, 1) := dk_172 (dk_at dksX4_isDown_0 14 rfl rfl)
abbrev cX4_isSeen : ByteArray := prog_2_method_4_code
def yX4_isSeen : MethodName := ⟨RX4, "isSeen", "()Z"⟩
def dkwX4_isSeen_0 : List UInt8 := [42, 180, 0, 22, 16, 251, 159, 0, 7, 4, 167, 0, 4, 3, 172]
abbrev dktX4_isSeen_0 : List UInt8 := dkwX4_isSeen_0 ++ []
theorem dksX4_isSeen_0 : cX4_isSeen.data.toList.drop 0 = dktX4_isSeen_0 := by decide +kernel
theorem dX4_isSeen_0 : decode cX4_isSeen 0 = .ok (.aload_n 0, 1) := dk_42 (dk_at dksX4_isSeen_0 0 rfl rfl)
theorem dX4_isSeen_1 : decode cX4_isSeen 1 = .ok (.getfield 22, 3) := dk_180 0 22 (dk_at dksX4_isSeen_0 1 rfl rfl)
theorem dX4_isSeen_4 : decode cX4_isSeen 4 = .ok (.bipush (-5), 2) := dk_16 251 (dk_at dksX4_isSeen_0 4 rfl rfl)
theorem dX4_isSeen_6 : decode cX4_isSeen 6 = .ok (.if_icmp .eq 7, 3) := dk_159 0 7 (dk_at dksX4_isSeen_0 6 rfl rfl)
theorem dX4_isSeen_9 : decode cX4_isSeen 9 = .ok (.iconst 1, 1) := dk_4 (dk_at dksX4_isSeen_0 9 rfl rfl)
theorem dX4_isSeen_10 : decode cX4_isSeen 10 = .ok (.goto 4, 3) := dk_167 0 4 (dk_at dksX4_isSeen_0 10 rfl rfl)
theorem dX4_isSeen_13 : decode cX4_isSeen 13 = .ok (.iconst 0, 1) := dk_3 (dk_at dksX4_isSeen_0 13 rfl rfl)
theorem dX4_isSeen_14 : decode cX4_isSeen 14 = .ok (.ireturn, 1) := dk_172 (dk_at dksX4_isSeen_0 14 rfl rfl)
abbrev cX4_copy : ByteArray := prog_2_method_2_code
def yX4_copy : MethodName := ⟨RX4, "copy", "()LBlanketKeys$Key;"⟩
def dkwX4_copy_2 : List UInt8 := [43, 42, 180, 0, 33, 181, 0, 33, 43, 42, 180, 0, 25, 181, 0, 25, 43, 176]
abbrev dktX4_copy_2 : List UInt8 := dkwX4_copy_2 ++ []
def dkwX4_copy_1 : List UInt8 := [43, 42, 180, 0, 19, 181, 0, 19, 43, 42, 180, 0, 22, 181, 0, 22, 43, 42, 180, 0, 29, 181, 0, 29]
abbrev dktX4_copy_1 : List UInt8 := dkwX4_copy_1 ++ dktX4_copy_2
def dkwX4_copy_0 : List UInt8 := [187, 0, 10, 89, 183, 0, 28, 76, 43, 42, 180, 0, 9, 181, 0, 9, 43, 42, 180, 0, 15, 181, 0, 15]
abbrev dktX4_copy_0 : List UInt8 := dkwX4_copy_0 ++ dktX4_copy_1
theorem dksX4_copy_0 : cX4_copy.data.toList.drop 0 = dktX4_copy_0 := by decide +kernel
theorem dksX4_copy_1 : cX4_copy.data.toList.drop 24 = dktX4_copy_1 := dk_seg dksX4_copy_0 24 rfl rfl
theorem dksX4_copy_2 : cX4_copy.data.toList.drop 48 = dktX4_copy_2 := dk_seg dksX4_copy_1 24 rfl rfl
theorem dX4_copy_0 : decode cX4_copy 0 = .ok (.new 10, 3) := dk_187 0 10 (dk_at dksX4_copy_0 0 rfl rfl)
theorem dX4_copy_3 : decode cX4_copy 3 = .ok (.dup, 1) := dk_89 (dk_at dksX4_copy_0 3 rfl rfl)
theorem dX4_copy_4 : decode cX4_copy 4 = .ok (.invokespecial 28, 3) := dk_183 0 28 (dk_at dksX4_copy_0 4 rfl rfl)
theorem dX4_copy_7 : decode cX4_copy 7 = .ok (.astore_n 1, 1) := dk_76 (dk_at dksX4_copy_0 7 rfl rfl)
theorem dX4_copy_8 : decode cX4_copy 8 = .ok (.aload_n 1, 1) := dk_43 (dk_at dksX4_copy_0 8 rfl rfl)
theorem dX4_copy_9 : decode cX4_copy 9 = .ok (.aload_n 0, 1) := dk_42 (dk_at dksX4_copy_0 9 rfl rfl)
theorem dX4_copy_10 : decode cX4_copy 10 = .ok (.getfield 9, 3) := dk_180 0 9 (dk_at dksX4_copy_0 10 rfl rfl)
theorem dX4_copy_13 : decode cX4_copy 13 = .ok (.putfield 9, 3) := dk_181 0 9 (dk_at dksX4_copy_0 13 rfl rfl)
theorem dX4_copy_16 : decode cX4_copy 16 = .ok (.aload_n 1, 1) := dk_43 (dk_at dksX4_copy_0 16 rfl rfl)
theorem dX4_copy_17 : decode cX4_copy 17 = .ok (.aload_n 0, 1) := dk_42 (dk_at dksX4_copy_0 17 rfl rfl)
theorem dX4_copy_18 : decode cX4_copy 18 = .ok (.getfield 15, 3) := dk_180 0 15 (dk_at dksX4_copy_0 18 rfl rfl)
theorem dX4_copy_21 : decode cX4_copy 21 = .ok (.putfield 15, 3) := dk_181 0 15 (dk_at dksX4_copy_0 21 rfl rfl)
theorem dX4_copy_24 : decode cX4_copy 24 = .ok (.aload_n 1, 1) := dk_43 (dk_at dksX4_copy_1 0 rfl rfl)
theorem dX4_copy_25 : decode cX4_copy 25 = .ok (.aload_n 0, 1) := dk_42 (dk_at dksX4_copy_1 1 rfl rfl)
theorem dX4_copy_26 : decode cX4_copy 26 = .ok (.getfield 19, 3) := dk_180 0 19 (dk_at dksX4_copy_1 2 rfl rfl)
theorem dX4_copy_29 : decode cX4_copy 29 = .ok (.putfield 19, 3) := dk_181 0 19 (dk_at dksX4_copy_1 5 rfl rfl)
theorem dX4_copy_32 : decode cX4_copy 32 = .ok (.aload_n 1, 1) := dk_43 (dk_at dksX4_copy_1 8 rfl rfl)
theorem dX4_copy_33 : decode cX4_copy 33 = .ok (.aload_n 0, 1) := dk_42 (dk_at dksX4_copy_1 9 rfl rfl)
theorem dX4_copy_34 : decode cX4_copy 34 = .ok (.getfield 22, 3) := dk_180 0 22 (dk_at dksX4_copy_1 10 rfl rfl)
theorem dX4_copy_37 : decode cX4_copy 37 = .ok (.putfield 22, 3) := dk_181 0 22 (dk_at dksX4_copy_1 13 rfl rfl)
theorem dX4_copy_40 : decode cX4_copy 40 = .ok (.aload_n 1, 1) := dk_43 (dk_at dksX4_copy_1 16 rfl rfl)
theorem dX4_copy_41 : decode cX4_copy 41 = .ok (.aload_n 0, 1) := dk_42 (dk_at dksX4_copy_1 17 rfl rfl)
theorem dX4_copy_42 : decode cX4_copy 42 = .ok (.getfield 29, 3) := dk_180 0 29 (dk_at dksX4_copy_1 18 rfl rfl)
theorem dX4_copy_45 : decode cX4_copy 45 = .ok (.putfield 29, 3) := dk_181 0 29 (dk_at dksX4_copy_1 21 rfl rfl)
theorem dX4_copy_48 : decode cX4_copy 48 = .ok (.aload_n 1, 1) := dk_43 (dk_at dksX4_copy_2 0 rfl rfl)
theorem dX4_copy_49 : decode cX4_copy 49 = .ok (.aload_n 0, 1) := dk_42 (dk_at dksX4_copy_2 1 rfl rfl)
theorem dX4_copy_50 : decode cX4_copy 50 = .ok (.getfield 33, 3) := dk_180 0 33 (dk_at dksX4_copy_2 2 rfl rfl)
theorem dX4_copy_53 : decode cX4_copy 53 = .ok (.putfield 33, 3) := dk_181 0 33 (dk_at dksX4_copy_2 5 rfl rfl)
theorem dX4_copy_56 : decode cX4_copy 56 = .ok (.aload_n 1, 1) := dk_43 (dk_at dksX4_copy_2 8 rfl rfl)
theorem dX4_copy_57 : decode cX4_copy 57 = .ok (.aload_n 0, 1) := dk_42 (dk_at dksX4_copy_2 9 rfl rfl)
theorem dX4_copy_58 : decode cX4_copy 58 = .ok (.getfield 25, 3) := dk_180 0 25 (dk_at dksX4_copy_2 10 rfl rfl)
theorem dX4_copy_61 : decode cX4_copy 61 = .ok (.putfield 25, 3) := dk_181 0 25 (dk_at dksX4_copy_2 13 rfl rfl)
theorem dX4_copy_64 : decode cX4_copy 64 = .ok (.aload_n 1, 1) := dk_43 (dk_at dksX4_copy_2 16 rfl rfl)
theorem dX4_copy_65 : decode cX4_copy 65 = .ok (.areturn, 1) := dk_176 (dk_at dksX4_copy_2 17 rfl rfl)
theorem q72 : (Jvm.Cond.initialized "BlanketKeys$Key") ∈ lw_all := lw_g (lw_at lw_m1 16 rfl) rfl
theorem q212 : (Jvm.Cond.selects "BlanketKeys$Key" ({ cls := "java/lang/Object", name := "getClass", desc := "()Ljava/lang/Class;" } : Jvm.MethodName) ({ cls := "java/lang/Object", name := "getClass", desc := "()Ljava/lang/Class;" } : Jvm.MethodName)) ∈ lw_all := lw_g (lw_at lw_m1 156 rfl) rfl
theorem q353 : (Jvm.Cond.instantiable "BlanketKeys$Key" (7 : Nat)) ∈ lw_all := lw_g (lw_at lw_m2 57 rfl) rfl
theorem q355 : (Jvm.Cond.instanceMethod ({ cls := "BlanketKeys$Key", name := "<init>", desc := "()V" } : Jvm.MethodName)) ∈ lw_all := lw_g (lw_at lw_m2 59 rfl) rfl
theorem q356 : (Jvm.Cond.code ({ cls := "BlanketKeys$Key", name := "<init>", desc := "()V" } : Jvm.MethodName) prog_2_method_1_code (1 : Nat) (Option.none : Option Jvm.ClassFile.FieldType)) ∈ lw_all := lw_g (lw_at lw_m2 60 rfl) rfl
theorem q357 : (Jvm.Cond.methodLink "BlanketKeys$Key" (3 : Nat) ({ cls := "java/lang/Object", name := "<init>", desc := "()V" } : Jvm.MethodName)) ∈ lw_all := lw_g (lw_at lw_m2 61 rfl) rfl
theorem q358 : (Jvm.Cond.fieldLink "BlanketKeys$Key" (9 : Nat) "BlanketKeys$Key" "sign" "C") ∈ lw_all := lw_g (lw_at lw_m2 62 rfl) rfl
theorem q361 : (Jvm.Cond.fieldLink "BlanketKeys$Key" (15 : Nat) "BlanketKeys$Key" "shiftOf" "I") ∈ lw_all := lw_g (lw_at lw_m2 65 rfl) rfl
theorem q364 : (Jvm.Cond.fieldLink "BlanketKeys$Key" (19 : Nat) "BlanketKeys$Key" "holder" "I") ∈ lw_all := lw_g (lw_at lw_m2 68 rfl) rfl
theorem q367 : (Jvm.Cond.fieldLink "BlanketKeys$Key" (22 : Nat) "BlanketKeys$Key" "since" "I") ∈ lw_all := lw_g (lw_at lw_m2 71 rfl) rfl
theorem q370 : (Jvm.Cond.fieldLink "BlanketKeys$Key" (29 : Nat) "BlanketKeys$Key" "isDoubtful" "Z") ∈ lw_all := lw_g (lw_at lw_m2 74 rfl) rfl
theorem q373 : (Jvm.Cond.fieldLink "BlanketKeys$Key" (33 : Nat) "BlanketKeys$Key" "shifts" "I") ∈ lw_all := lw_g (lw_at lw_m2 77 rfl) rfl
theorem q375 : (Jvm.Cond.fieldLink "BlanketKeys$Key" (25 : Nat) "BlanketKeys$Key" "trueHolder" "I") ∈ lw_all := lw_g (lw_at lw_m2 79 rfl) rfl
theorem q377 : (Jvm.Cond.lays "BlanketKeys$Key" "BlanketKeys$Key" "sign" "C") ∈ lw_all := lw_g (lw_at lw_m2 81 rfl) rfl
theorem q378 : (Jvm.Cond.soleField "BlanketKeys$Key" "sign") ∈ lw_all := lw_g (lw_at lw_m2 82 rfl) rfl
theorem q379 : (Jvm.Cond.lays "BlanketKeys$Key" "BlanketKeys$Key" "shiftOf" "I") ∈ lw_all := lw_g (lw_at lw_m2 83 rfl) rfl
theorem q380 : (Jvm.Cond.soleField "BlanketKeys$Key" "shiftOf") ∈ lw_all := lw_g (lw_at lw_m2 84 rfl) rfl
theorem q381 : (Jvm.Cond.lays "BlanketKeys$Key" "BlanketKeys$Key" "holder" "I") ∈ lw_all := lw_g (lw_at lw_m2 85 rfl) rfl
theorem q382 : (Jvm.Cond.soleField "BlanketKeys$Key" "holder") ∈ lw_all := lw_g (lw_at lw_m2 86 rfl) rfl
theorem q383 : (Jvm.Cond.lays "BlanketKeys$Key" "BlanketKeys$Key" "since" "I") ∈ lw_all := lw_g (lw_at lw_m2 87 rfl) rfl
theorem q384 : (Jvm.Cond.soleField "BlanketKeys$Key" "since") ∈ lw_all := lw_g (lw_at lw_m2 88 rfl) rfl
theorem q385 : (Jvm.Cond.lays "BlanketKeys$Key" "BlanketKeys$Key" "isDoubtful" "Z") ∈ lw_all := lw_g (lw_at lw_m2 89 rfl) rfl
theorem q386 : (Jvm.Cond.soleField "BlanketKeys$Key" "isDoubtful") ∈ lw_all := lw_g (lw_at lw_m2 90 rfl) rfl
theorem q387 : (Jvm.Cond.lays "BlanketKeys$Key" "BlanketKeys$Key" "shifts" "I") ∈ lw_all := lw_g (lw_at lw_m2 91 rfl) rfl
theorem q388 : (Jvm.Cond.soleField "BlanketKeys$Key" "shifts") ∈ lw_all := lw_g (lw_at lw_m2 92 rfl) rfl
theorem q389 : (Jvm.Cond.lays "BlanketKeys$Key" "BlanketKeys$Key" "trueHolder" "I") ∈ lw_all := lw_g (lw_at lw_m2 93 rfl) rfl
theorem q390 : (Jvm.Cond.soleField "BlanketKeys$Key" "trueHolder") ∈ lw_all := lw_g (lw_at lw_m2 94 rfl) rfl
theorem q391 : (Jvm.Cond.superclass "BlanketKeys$Key" "java/lang/Object") ∈ lw_all := lw_g (lw_at lw_m2 95 rfl) rfl
theorem q442 : (Jvm.Cond.instanceMethod ({ cls := "BlanketKeys$Key", name := "isDown", desc := "()Z" } : Jvm.MethodName)) ∈ lw_all := lw_g (lw_at lw_m2 146 rfl) rfl
theorem q443 : (Jvm.Cond.selects "BlanketKeys$Key" ({ cls := "BlanketKeys$Key", name := "isDown", desc := "()Z" } : Jvm.MethodName) ({ cls := "BlanketKeys$Key", name := "isDown", desc := "()Z" } : Jvm.MethodName)) ∈ lw_all := lw_g (lw_at lw_m2 147 rfl) rfl
theorem q444 : (Jvm.Cond.code ({ cls := "BlanketKeys$Key", name := "isDown", desc := "()Z" } : Jvm.MethodName) prog_2_method_3_code (1 : Nat) (Option.some Jvm.ClassFile.FieldType.boolean)) ∈ lw_all := lw_g (lw_at lw_m2 148 rfl) rfl
theorem q446 : (Jvm.Cond.instanceMethod ({ cls := "BlanketKeys$Key", name := "isSeen", desc := "()Z" } : Jvm.MethodName)) ∈ lw_all := lw_g (lw_at lw_m2 150 rfl) rfl
theorem q447 : (Jvm.Cond.selects "BlanketKeys$Key" ({ cls := "BlanketKeys$Key", name := "isSeen", desc := "()Z" } : Jvm.MethodName) ({ cls := "BlanketKeys$Key", name := "isSeen", desc := "()Z" } : Jvm.MethodName)) ∈ lw_all := lw_g (lw_at lw_m2 151 rfl) rfl
theorem q448 : (Jvm.Cond.code ({ cls := "BlanketKeys$Key", name := "isSeen", desc := "()Z" } : Jvm.MethodName) prog_2_method_4_code (1 : Nat) (Option.some Jvm.ClassFile.FieldType.boolean)) ∈ lw_all := lw_g (lw_at lw_m2 152 rfl) rfl
theorem q460 : (Jvm.Cond.instanceMethod ({ cls := "BlanketKeys$Key", name := "copy", desc := "()LBlanketKeys$Key;" } : Jvm.MethodName)) ∈ lw_all := lw_g (lw_at lw_m2 164 rfl) rfl
theorem q461 : (Jvm.Cond.selects "BlanketKeys$Key" ({ cls := "BlanketKeys$Key", name := "copy", desc := "()LBlanketKeys$Key;" } : Jvm.MethodName) ({ cls := "BlanketKeys$Key", name := "copy", desc := "()LBlanketKeys$Key;" } : Jvm.MethodName)) ∈ lw_all := lw_g (lw_at lw_m2 165 rfl) rfl
theorem q462 : (Jvm.Cond.code ({ cls := "BlanketKeys$Key", name := "copy", desc := "()LBlanketKeys$Key;" } : Jvm.MethodName) prog_2_method_2_code (2 : Nat) (Option.some (Jvm.ClassFile.FieldType.object "BlanketKeys$Key"))) ∈ lw_all := lw_g (lw_at lw_m2 166 rfl) rfl
theorem q463 : (Jvm.Cond.classLink "BlanketKeys$Key" (10 : Nat) "BlanketKeys$Key") ∈ lw_all := lw_g (lw_at lw_m2 167 rfl) rfl
theorem q464 : (Jvm.Cond.methodLink "BlanketKeys$Key" (28 : Nat) ({ cls := "BlanketKeys$Key", name := "<init>", desc := "()V" } : Jvm.MethodName)) ∈ lw_all := lw_g (lw_at lw_m2 168 rfl) rfl
theorem q1456 : (Jvm.Cond.castable "BlanketKeys$Key" "java/lang/Object") ∈ lw_tbl := lw_at lw_m6 200 rfl
theorem in_X4 : ∀ w ∈ wsX40, w ∈ lw_all := lw_in wsX40 [377, 379, 381, 383, 385, 387, 389] (by decide +kernel) (by decide +kernel)
/-! BlanketKeys$Stroke -/
set_option maxRecDepth 100000
def RX6 : String := "BlanketKeys$Stroke"
def TX6 : u_T := fun k => match k with
  | 0 => ("BlanketKeys$Stroke", "key", "I", true)
  | 1 => ("BlanketKeys$Stroke", "since", "I", true)
  | 2 => ("BlanketKeys$Stroke", "dwell", "I", true)
  | 3 => ("BlanketKeys$Stroke", "shifts", "I", true)
  | 4 => ("BlanketKeys$Stroke", "holder", "I", true)
  | _ => ("BlanketKeys$Stroke", "fate", "I", true)
def tyX6 : Nat → FieldType := fun k => match k with
  | 0 => .int
  | 1 => .int
  | 2 => .int
  | 3 => .int
  | 4 => .int
  | _ => .int
abbrev wsX60 : List Cond := u_ws RX6 TX6 6
theorem nmX6 : ∀ a, a < 6 → ∀ b, b < 6 → a ≠ b → (TX6 a).2.1 ≠ (TX6 b).2.1 := by decide +kernel
theorem tyX6_ok : ∀ k, k < 6 → parseFieldDescriptor (TX6 k).2.2.1 = some (tyX6 k) := by decide +kernel
abbrev cX6_init : ByteArray := prog_7_method_1_code
def yX6_init : MethodName := ⟨RX6, "<init>", "(IIIIII)V"⟩
def dkwX6_init_1 : List UInt8 := [181, 0, 21, 42, 21, 5, 181, 0, 24, 42, 21, 6, 181, 0, 27, 177]
abbrev dktX6_init_1 : List UInt8 := dkwX6_init_1 ++ []
def dkwX6_init_0 : List UInt8 := [42, 183, 0, 3, 42, 27, 181, 0, 9, 42, 28, 181, 0, 15, 42, 29, 181, 0, 18, 42, 21, 4]
abbrev dktX6_init_0 : List UInt8 := dkwX6_init_0 ++ dktX6_init_1
theorem dksX6_init_0 : cX6_init.data.toList.drop 0 = dktX6_init_0 := by decide +kernel
theorem dksX6_init_1 : cX6_init.data.toList.drop 22 = dktX6_init_1 := dk_seg dksX6_init_0 22 rfl rfl
theorem dX6_init_0 : decode cX6_init 0 = .ok (.aload_n 0, 1) := dk_42 (dk_at dksX6_init_0 0 rfl rfl)
theorem dX6_init_1 : decode cX6_init 1 = .ok (.invokespecial 3, 3) := dk_183 0 3 (dk_at dksX6_init_0 1 rfl rfl)
theorem dX6_init_4 : decode cX6_init 4 = .ok (.aload_n 0, 1) := dk_42 (dk_at dksX6_init_0 4 rfl rfl)
theorem dX6_init_5 : decode cX6_init 5 = .ok (.iload_n 1, 1) := dk_27 (dk_at dksX6_init_0 5 rfl rfl)
theorem dX6_init_6 : decode cX6_init 6 = .ok (.putfield 9, 3) := dk_181 0 9 (dk_at dksX6_init_0 6 rfl rfl)
theorem dX6_init_9 : decode cX6_init 9 = .ok (.aload_n 0, 1) := dk_42 (dk_at dksX6_init_0 9 rfl rfl)
theorem dX6_init_10 : decode cX6_init 10 = .ok (.iload_n 2, 1) := dk_28 (dk_at dksX6_init_0 10 rfl rfl)
theorem dX6_init_11 : decode cX6_init 11 = .ok (.putfield 15, 3) := dk_181 0 15 (dk_at dksX6_init_0 11 rfl rfl)
theorem dX6_init_14 : decode cX6_init 14 = .ok (.aload_n 0, 1) := dk_42 (dk_at dksX6_init_0 14 rfl rfl)
theorem dX6_init_15 : decode cX6_init 15 = .ok (.iload_n 3, 1) := dk_29 (dk_at dksX6_init_0 15 rfl rfl)
theorem dX6_init_16 : decode cX6_init 16 = .ok (.putfield 18, 3) := dk_181 0 18 (dk_at dksX6_init_0 16 rfl rfl)
theorem dX6_init_19 : decode cX6_init 19 = .ok (.aload_n 0, 1) := dk_42 (dk_at dksX6_init_0 19 rfl rfl)
theorem dX6_init_20 : decode cX6_init 20 = .ok (.iload 4, 2) := dk_21 4 (dk_at dksX6_init_0 20 rfl rfl)
theorem dX6_init_22 : decode cX6_init 22 = .ok (.putfield 21, 3) := dk_181 0 21 (dk_at dksX6_init_1 0 rfl rfl)
theorem dX6_init_25 : decode cX6_init 25 = .ok (.aload_n 0, 1) := dk_42 (dk_at dksX6_init_1 3 rfl rfl)
theorem dX6_init_26 : decode cX6_init 26 = .ok (.iload 5, 2) := dk_21 5 (dk_at dksX6_init_1 4 rfl rfl)
theorem dX6_init_28 : decode cX6_init 28 = .ok (.putfield 24, 3) := dk_181 0 24 (dk_at dksX6_init_1 6 rfl rfl)
theorem dX6_init_31 : decode cX6_init 31 = .ok (.aload_n 0, 1) := dk_42 (dk_at dksX6_init_1 9 rfl rfl)
theorem dX6_init_32 : decode cX6_init 32 = .ok (.iload 6, 2) := dk_21 6 (dk_at dksX6_init_1 10 rfl rfl)
theorem dX6_init_34 : decode cX6_init 34 = .ok (.putfield 27, 3) := dk_181 0 27 (dk_at dksX6_init_1 12 rfl rfl)
theorem dX6_init_37 : decode cX6_init 37 = .ok (.return_, 1) := dk_177 (dk_at dksX6_init_1 15 rfl rfl)
abbrev cX6_isRight : ByteArray := prog_7_method_4_code
def yX6_isRight : MethodName := ⟨RX6, "isRight", "()Z"⟩
def dkwX6_isRight_2 : List UInt8 := [4, 167, 0, 4, 3, 172]
abbrev dktX6_isRight_2 : List UInt8 := dkwX6_isRight_2 ++ []
def dkwX6_isRight_1 : List UInt8 := [167, 0, 29, 3, 167, 0, 25, 42, 180, 0, 27, 5, 160, 0, 16, 42, 180, 0, 24, 16, 251, 160, 0, 7]
abbrev dktX6_isRight_1 : List UInt8 := dkwX6_isRight_1 ++ dktX6_isRight_2
def dkwX6_isRight_0 : List UInt8 := [42, 180, 0, 27, 184, 0, 33, 153, 0, 22, 42, 180, 0, 27, 42, 180, 0, 24, 160, 0, 7, 4]
abbrev dktX6_isRight_0 : List UInt8 := dkwX6_isRight_0 ++ dktX6_isRight_1
theorem dksX6_isRight_0 : cX6_isRight.data.toList.drop 0 = dktX6_isRight_0 := by decide +kernel
theorem dksX6_isRight_1 : cX6_isRight.data.toList.drop 22 = dktX6_isRight_1 := dk_seg dksX6_isRight_0 22 rfl rfl
theorem dksX6_isRight_2 : cX6_isRight.data.toList.drop 46 = dktX6_isRight_2 := dk_seg dksX6_isRight_1 24 rfl rfl
theorem dX6_isRight_0 : decode cX6_isRight 0 = .ok (.aload_n 0, 1) := dk_42 (dk_at dksX6_isRight_0 0 rfl rfl)
theorem dX6_isRight_1 : decode cX6_isRight 1 = .ok (.getfield 27, 3) := dk_180 0 27 (dk_at dksX6_isRight_0 1 rfl rfl)
theorem dX6_isRight_4 : decode cX6_isRight 4 = .ok (.invokestatic 33, 3) := dk_184 0 33 (dk_at dksX6_isRight_0 4 rfl rfl)
theorem dX6_isRight_7 : decode cX6_isRight 7 = .ok (.ifCond .eq 22, 3) := dk_153 0 22 (dk_at dksX6_isRight_0 7 rfl rfl)
theorem dX6_isRight_10 : decode cX6_isRight 10 = .ok (.aload_n 0, 1) := dk_42 (dk_at dksX6_isRight_0 10 rfl rfl)
theorem dX6_isRight_11 : decode cX6_isRight 11 = .ok (.getfield 27, 3) := dk_180 0 27 (dk_at dksX6_isRight_0 11 rfl rfl)
theorem dX6_isRight_14 : decode cX6_isRight 14 = .ok (.aload_n 0, 1) := dk_42 (dk_at dksX6_isRight_0 14 rfl rfl)
theorem dX6_isRight_15 : decode cX6_isRight 15 = .ok (.getfield 24, 3) := dk_180 0 24 (dk_at dksX6_isRight_0 15 rfl rfl)
theorem dX6_isRight_18 : decode cX6_isRight 18 = .ok (.if_icmp .ne 7, 3) := dk_160 0 7 (dk_at dksX6_isRight_0 18 rfl rfl)
theorem dX6_isRight_21 : decode cX6_isRight 21 = .ok (.iconst 1, 1) := dk_4 (dk_at dksX6_isRight_0 21 rfl rfl)
theorem dX6_isRight_22 : decode cX6_isRight 22 = .ok (.goto 29, 3) := dk_167 0 29 (dk_at dksX6_isRight_1 0 rfl rfl)
theorem dX6_isRight_25 : decode cX6_isRight 25 = .ok (.iconst 0, 1) := dk_3 (dk_at dksX6_isRight_1 3 rfl rfl)
theorem dX6_isRight_26 : decode cX6_isRight 26 = .ok (.goto 25, 3) := dk_167 0 25 (dk_at dksX6_isRight_1 4 rfl rfl)
theorem dX6_isRight_29 : decode cX6_isRight 29 = .ok (.aload_n 0, 1) := dk_42 (dk_at dksX6_isRight_1 7 rfl rfl)
theorem dX6_isRight_30 : decode cX6_isRight 30 = .ok (.getfield 27, 3) := dk_180 0 27 (dk_at dksX6_isRight_1 8 rfl rfl)
theorem dX6_isRight_33 : decode cX6_isRight 33 = .ok (.iconst 2, 1) := dk_5 (dk_at dksX6_isRight_1 11 rfl rfl)
theorem dX6_isRight_34 : decode cX6_isRight 34 = .ok (.if_icmp .ne 16, 3) := dk_160 0 16 (dk_at dksX6_isRight_1 12 rfl rfl)
theorem dX6_isRight_37 : decode cX6_isRight 37 = .ok (.aload_n 0, 1) := dk_42 (dk_at dksX6_isRight_1 15 rfl rfl)
theorem dX6_isRight_38 : decode cX6_isRight 38 = .ok (.getfield 24, 3) := dk_180 0 24 (dk_at dksX6_isRight_1 16 rfl rfl)
theorem dX6_isRight_41 : decode cX6_isRight 41 = .ok (.bipush (-5), 2) := dk_16 251 (dk_at dksX6_isRight_1 19 rfl rfl)
theorem dX6_isRight_43 : decode cX6_isRight 43 = .ok (.if_icmp .ne 7, 3) := dk_160 0 7 (dk_at dksX6_isRight_1 21 rfl rfl)
theorem dX6_isRight_46 : decode cX6_isRight 46 = .ok (.iconst 1, 1) := dk_4 (dk_at dksX6_isRight_2 0 rfl rfl)
theorem dX6_isRight_47 : decode cX6_isRight 47 = .ok (.goto 4, 3) := dk_167 0 4 (dk_at dksX6_isRight_2 1 rfl rfl)
theorem dX6_isRight_50 : decode cX6_isRight 50 = .ok (.iconst 0, 1) := dk_3 (dk_at dksX6_isRight_2 4 rfl rfl)
theorem dX6_isRight_51 : decode cX6_isRight 51 = .ok (.ireturn, 1) := dk_172 (dk_at dksX6_isRight_2 5 rfl rfl)
abbrev cX6_withFate : ByteArray := prog_7_method_2_code
def yX6_withFate : MethodName := ⟨RX6, "withFate", "(I)LBlanketKeys$Stroke;"⟩
def dkwX6_withFate_1 : List UInt8 := [27, 183, 0, 30, 176]
abbrev dktX6_withFate_1 : List UInt8 := dkwX6_withFate_1 ++ []
def dkwX6_withFate_0 : List UInt8 := [187, 0, 10, 89, 42, 180, 0, 9, 42, 180, 0, 15, 42, 180, 0, 18, 42, 180, 0, 21, 42, 180, 0, 24]
abbrev dktX6_withFate_0 : List UInt8 := dkwX6_withFate_0 ++ dktX6_withFate_1
theorem dksX6_withFate_0 : cX6_withFate.data.toList.drop 0 = dktX6_withFate_0 := by decide +kernel
theorem dksX6_withFate_1 : cX6_withFate.data.toList.drop 24 = dktX6_withFate_1 := dk_seg dksX6_withFate_0 24 rfl rfl
theorem dX6_withFate_0 : decode cX6_withFate 0 = .ok (.new 10, 3) := dk_187 0 10 (dk_at dksX6_withFate_0 0 rfl rfl)
theorem dX6_withFate_3 : decode cX6_withFate 3 = .ok (.dup, 1) := dk_89 (dk_at dksX6_withFate_0 3 rfl rfl)
theorem dX6_withFate_4 : decode cX6_withFate 4 = .ok (.aload_n 0, 1) := dk_42 (dk_at dksX6_withFate_0 4 rfl rfl)
theorem dX6_withFate_5 : decode cX6_withFate 5 = .ok (.getfield 9, 3) := dk_180 0 9 (dk_at dksX6_withFate_0 5 rfl rfl)
theorem dX6_withFate_8 : decode cX6_withFate 8 = .ok (.aload_n 0, 1) := dk_42 (dk_at dksX6_withFate_0 8 rfl rfl)
theorem dX6_withFate_9 : decode cX6_withFate 9 = .ok (.getfield 15, 3) := dk_180 0 15 (dk_at dksX6_withFate_0 9 rfl rfl)
theorem dX6_withFate_12 : decode cX6_withFate 12 = .ok (.aload_n 0, 1) := dk_42 (dk_at dksX6_withFate_0 12 rfl rfl)
theorem dX6_withFate_13 : decode cX6_withFate 13 = .ok (.getfield 18, 3) := dk_180 0 18 (dk_at dksX6_withFate_0 13 rfl rfl)
theorem dX6_withFate_16 : decode cX6_withFate 16 = .ok (.aload_n 0, 1) := dk_42 (dk_at dksX6_withFate_0 16 rfl rfl)
theorem dX6_withFate_17 : decode cX6_withFate 17 = .ok (.getfield 21, 3) := dk_180 0 21 (dk_at dksX6_withFate_0 17 rfl rfl)
theorem dX6_withFate_20 : decode cX6_withFate 20 = .ok (.aload_n 0, 1) := dk_42 (dk_at dksX6_withFate_0 20 rfl rfl)
theorem dX6_withFate_21 : decode cX6_withFate 21 = .ok (.getfield 24, 3) := dk_180 0 24 (dk_at dksX6_withFate_0 21 rfl rfl)
theorem dX6_withFate_24 : decode cX6_withFate 24 = .ok (.iload_n 1, 1) := dk_27 (dk_at dksX6_withFate_1 0 rfl rfl)
theorem dX6_withFate_25 : decode cX6_withFate 25 = .ok (.invokespecial 30, 3) := dk_183 0 30 (dk_at dksX6_withFate_1 1 rfl rfl)
theorem dX6_withFate_28 : decode cX6_withFate 28 = .ok (.areturn, 1) := dk_176 (dk_at dksX6_withFate_1 4 rfl rfl)
abbrev cX6_isSame : ByteArray := prog_7_method_3_code
def yX6_isSame : MethodName := ⟨RX6, "isSame", "(LBlanketKeys$Stroke;)Z"⟩
def dkwX6_isSame_1 : List UInt8 := [167, 0, 4, 3, 172]
abbrev dktX6_isSame_1 : List UInt8 := dkwX6_isSame_1 ++ []
def dkwX6_isSame_0 : List UInt8 := [42, 180, 0, 9, 43, 180, 0, 9, 160, 0, 18, 42, 180, 0, 15, 43, 180, 0, 15, 160, 0, 7, 4]
abbrev dktX6_isSame_0 : List UInt8 := dkwX6_isSame_0 ++ dktX6_isSame_1
theorem dksX6_isSame_0 : cX6_isSame.data.toList.drop 0 = dktX6_isSame_0 := by decide +kernel
theorem dksX6_isSame_1 : cX6_isSame.data.toList.drop 23 = dktX6_isSame_1 := dk_seg dksX6_isSame_0 23 rfl rfl
theorem dX6_isSame_0 : decode cX6_isSame 0 = .ok (.aload_n 0, 1) := dk_42 (dk_at dksX6_isSame_0 0 rfl rfl)
theorem dX6_isSame_1 : decode cX6_isSame 1 = .ok (.getfield 9, 3) := dk_180 0 9 (dk_at dksX6_isSame_0 1 rfl rfl)
theorem dX6_isSame_4 : decode cX6_isSame 4 = .ok (.aload_n 1, 1) := dk_43 (dk_at dksX6_isSame_0 4 rfl rfl)
theorem dX6_isSame_5 : decode cX6_isSame 5 = .ok (.getfield 9, 3) := dk_180 0 9 (dk_at dksX6_isSame_0 5 rfl rfl)
theorem dX6_isSame_8 : decode cX6_isSame 8 = .ok (.if_icmp .ne 18, 3) := dk_160 0 18 (dk_at dksX6_isSame_0 8 rfl rfl)
theorem dX6_isSame_11 : decode cX6_isSame 11 = .ok (.aload_n 0, 1) := dk_42 (dk_at dksX6_isSame_0 11 rfl rfl)
theorem dX6_isSame_12 : decode cX6_isSame 12 = .ok (.getfield 15, 3) := dk_180 0 15 (dk_at dksX6_isSame_0 12 rfl rfl)
theorem dX6_isSame_15 : decode cX6_isSame 15 = .ok (.aload_n 1, 1) := dk_43 (dk_at dksX6_isSame_0 15 rfl rfl)
theorem dX6_isSame_16 : decode cX6_isSame 16 = .ok (.getfield 15, 3) := dk_180 0 15 (dk_at dksX6_isSame_0 16 rfl rfl)
theorem dX6_isSame_19 : decode cX6_isSame 19 = .ok (.if_icmp .ne 7, 3) := dk_160 0 7 (dk_at dksX6_isSame_0 19 rfl rfl)
theorem dX6_isSame_22 : decode cX6_isSame 22 = .ok (.iconst 1, 1) := dk_4 (dk_at dksX6_isSame_0 22 rfl rfl)
theorem dX6_isSame_23 : decode cX6_isSame 23 = .ok (.goto 4, 3) := dk_167 0 4 (dk_at dksX6_isSame_1 0 rfl rfl)
theorem dX6_isSame_26 : decode cX6_isSame 26 = .ok (.iconst 0, 1) := dk_3 (dk_at dksX6_isSame_1 3 rfl rfl)
theorem dX6_isSame_27 : decode cX6_isSame 27 = .ok (.ireturn, 1) := dk_172 (dk_at dksX6_isSame_1 4 rfl rfl)
theorem q78 : (Jvm.Cond.initialized "BlanketKeys$Stroke") ∈ lw_all := lw_g (lw_at lw_m1 22 rfl) rfl
theorem q217 : (Jvm.Cond.selects "BlanketKeys$Stroke" ({ cls := "java/lang/Object", name := "getClass", desc := "()Ljava/lang/Class;" } : Jvm.MethodName) ({ cls := "java/lang/Object", name := "getClass", desc := "()Ljava/lang/Class;" } : Jvm.MethodName)) ∈ lw_all := lw_g (lw_at lw_m1 161 rfl) rfl
theorem q604 : (Jvm.Cond.instantiable "BlanketKeys$Stroke" (6 : Nat)) ∈ lw_all := lw_g (lw_at lw_m3 68 rfl) rfl
theorem q630 : (Jvm.Cond.instanceMethod ({ cls := "BlanketKeys$Stroke", name := "<init>", desc := "(IIIIII)V" } : Jvm.MethodName)) ∈ lw_all := lw_g (lw_at lw_m3 94 rfl) rfl
theorem q631 : (Jvm.Cond.code ({ cls := "BlanketKeys$Stroke", name := "<init>", desc := "(IIIIII)V" } : Jvm.MethodName) prog_7_method_1_code (7 : Nat) (Option.none : Option Jvm.ClassFile.FieldType)) ∈ lw_all := lw_g (lw_at lw_m3 95 rfl) rfl
theorem q632 : (Jvm.Cond.methodLink "BlanketKeys$Stroke" (3 : Nat) ({ cls := "java/lang/Object", name := "<init>", desc := "()V" } : Jvm.MethodName)) ∈ lw_all := lw_g (lw_at lw_m3 96 rfl) rfl
theorem q633 : (Jvm.Cond.fieldLink "BlanketKeys$Stroke" (9 : Nat) "BlanketKeys$Stroke" "key" "I") ∈ lw_all := lw_g (lw_at lw_m3 97 rfl) rfl
theorem q636 : (Jvm.Cond.fieldLink "BlanketKeys$Stroke" (15 : Nat) "BlanketKeys$Stroke" "since" "I") ∈ lw_all := lw_g (lw_at lw_m3 100 rfl) rfl
theorem q639 : (Jvm.Cond.fieldLink "BlanketKeys$Stroke" (18 : Nat) "BlanketKeys$Stroke" "dwell" "I") ∈ lw_all := lw_g (lw_at lw_m3 103 rfl) rfl
theorem q642 : (Jvm.Cond.fieldLink "BlanketKeys$Stroke" (21 : Nat) "BlanketKeys$Stroke" "shifts" "I") ∈ lw_all := lw_g (lw_at lw_m3 106 rfl) rfl
theorem q645 : (Jvm.Cond.fieldLink "BlanketKeys$Stroke" (24 : Nat) "BlanketKeys$Stroke" "holder" "I") ∈ lw_all := lw_g (lw_at lw_m3 109 rfl) rfl
theorem q647 : (Jvm.Cond.fieldLink "BlanketKeys$Stroke" (27 : Nat) "BlanketKeys$Stroke" "fate" "I") ∈ lw_all := lw_g (lw_at lw_m3 111 rfl) rfl
theorem q650 : (Jvm.Cond.laysFinal "BlanketKeys$Stroke" "BlanketKeys$Stroke" "key" "I") ∈ lw_all := lw_g (lw_at lw_m3 114 rfl) rfl
theorem q651 : (Jvm.Cond.soleField "BlanketKeys$Stroke" "key") ∈ lw_all := lw_g (lw_at lw_m3 115 rfl) rfl
theorem q652 : (Jvm.Cond.laysFinal "BlanketKeys$Stroke" "BlanketKeys$Stroke" "since" "I") ∈ lw_all := lw_g (lw_at lw_m3 116 rfl) rfl
theorem q653 : (Jvm.Cond.soleField "BlanketKeys$Stroke" "since") ∈ lw_all := lw_g (lw_at lw_m3 117 rfl) rfl
theorem q654 : (Jvm.Cond.laysFinal "BlanketKeys$Stroke" "BlanketKeys$Stroke" "dwell" "I") ∈ lw_all := lw_g (lw_at lw_m3 118 rfl) rfl
theorem q655 : (Jvm.Cond.soleField "BlanketKeys$Stroke" "dwell") ∈ lw_all := lw_g (lw_at lw_m3 119 rfl) rfl
theorem q656 : (Jvm.Cond.laysFinal "BlanketKeys$Stroke" "BlanketKeys$Stroke" "shifts" "I") ∈ lw_all := lw_g (lw_at lw_m3 120 rfl) rfl
theorem q657 : (Jvm.Cond.soleField "BlanketKeys$Stroke" "shifts") ∈ lw_all := lw_g (lw_at lw_m3 121 rfl) rfl
theorem q658 : (Jvm.Cond.laysFinal "BlanketKeys$Stroke" "BlanketKeys$Stroke" "holder" "I") ∈ lw_all := lw_g (lw_at lw_m3 122 rfl) rfl
theorem q659 : (Jvm.Cond.soleField "BlanketKeys$Stroke" "holder") ∈ lw_all := lw_g (lw_at lw_m3 123 rfl) rfl
theorem q660 : (Jvm.Cond.laysFinal "BlanketKeys$Stroke" "BlanketKeys$Stroke" "fate" "I") ∈ lw_all := lw_g (lw_at lw_m3 124 rfl) rfl
theorem q661 : (Jvm.Cond.soleField "BlanketKeys$Stroke" "fate") ∈ lw_all := lw_g (lw_at lw_m3 125 rfl) rfl
theorem q662 : (Jvm.Cond.superclass "BlanketKeys$Stroke" "java/lang/Object") ∈ lw_all := lw_g (lw_at lw_m3 126 rfl) rfl
theorem q669 : (Jvm.Cond.instanceMethod ({ cls := "BlanketKeys$Stroke", name := "isRight", desc := "()Z" } : Jvm.MethodName)) ∈ lw_all := lw_g (lw_at lw_m3 133 rfl) rfl
theorem q670 : (Jvm.Cond.selects "BlanketKeys$Stroke" ({ cls := "BlanketKeys$Stroke", name := "isRight", desc := "()Z" } : Jvm.MethodName) ({ cls := "BlanketKeys$Stroke", name := "isRight", desc := "()Z" } : Jvm.MethodName)) ∈ lw_all := lw_g (lw_at lw_m3 134 rfl) rfl
theorem q671 : (Jvm.Cond.code ({ cls := "BlanketKeys$Stroke", name := "isRight", desc := "()Z" } : Jvm.MethodName) prog_7_method_4_code (1 : Nat) (Option.some Jvm.ClassFile.FieldType.boolean)) ∈ lw_all := lw_g (lw_at lw_m3 135 rfl) rfl
theorem q672 : (Jvm.Cond.methodLinkNest "BlanketKeys$Stroke" (33 : Nat) ({ cls := "BlanketKeys", name := "isTypist", desc := "(I)Z" } : Jvm.MethodName) "BlanketKeys") ∈ lw_tbl := lw_at lw_m3 136 rfl
theorem q723 : (Jvm.Cond.instanceMethod ({ cls := "BlanketKeys$Stroke", name := "withFate", desc := "(I)LBlanketKeys$Stroke;" } : Jvm.MethodName)) ∈ lw_all := lw_g (lw_at lw_m3 187 rfl) rfl
theorem q724 : (Jvm.Cond.selects "BlanketKeys$Stroke" ({ cls := "BlanketKeys$Stroke", name := "withFate", desc := "(I)LBlanketKeys$Stroke;" } : Jvm.MethodName) ({ cls := "BlanketKeys$Stroke", name := "withFate", desc := "(I)LBlanketKeys$Stroke;" } : Jvm.MethodName)) ∈ lw_all := lw_g (lw_at lw_m3 188 rfl) rfl
theorem q725 : (Jvm.Cond.code ({ cls := "BlanketKeys$Stroke", name := "withFate", desc := "(I)LBlanketKeys$Stroke;" } : Jvm.MethodName) prog_7_method_2_code (2 : Nat) (Option.some (Jvm.ClassFile.FieldType.object "BlanketKeys$Stroke"))) ∈ lw_all := lw_g (lw_at lw_m3 189 rfl) rfl
theorem q726 : (Jvm.Cond.classLink "BlanketKeys$Stroke" (10 : Nat) "BlanketKeys$Stroke") ∈ lw_all := lw_g (lw_at lw_m3 190 rfl) rfl
theorem q727 : (Jvm.Cond.methodLink "BlanketKeys$Stroke" (30 : Nat) ({ cls := "BlanketKeys$Stroke", name := "<init>", desc := "(IIIIII)V" } : Jvm.MethodName)) ∈ lw_all := lw_g (lw_at lw_m3 191 rfl) rfl
theorem q738 : (Jvm.Cond.instanceMethod ({ cls := "BlanketKeys$Stroke", name := "isSame", desc := "(LBlanketKeys$Stroke;)Z" } : Jvm.MethodName)) ∈ lw_all := lw_g (lw_at lw_m3 202 rfl) rfl
theorem q739 : (Jvm.Cond.selects "BlanketKeys$Stroke" ({ cls := "BlanketKeys$Stroke", name := "isSame", desc := "(LBlanketKeys$Stroke;)Z" } : Jvm.MethodName) ({ cls := "BlanketKeys$Stroke", name := "isSame", desc := "(LBlanketKeys$Stroke;)Z" } : Jvm.MethodName)) ∈ lw_all := lw_g (lw_at lw_m3 203 rfl) rfl
theorem q740 : (Jvm.Cond.code ({ cls := "BlanketKeys$Stroke", name := "isSame", desc := "(LBlanketKeys$Stroke;)Z" } : Jvm.MethodName) prog_7_method_3_code (2 : Nat) (Option.some Jvm.ClassFile.FieldType.boolean)) ∈ lw_all := lw_g (lw_at lw_m3 204 rfl) rfl
theorem q1458 : (Jvm.Cond.castable "BlanketKeys$Stroke" "java/lang/Object") ∈ lw_tbl := lw_at lw_m6 202 rfl
theorem in_X6 : ∀ w ∈ wsX60, w ∈ lw_all := lw_in wsX60 [650, 652, 654, 656, 658, 660] (by decide +kernel) (by decide +kernel)
/-! BlanketKeys$Reader -/
set_option maxRecDepth 100000
def RX7 : String := "BlanketKeys$Reader"
def TX7 : u_T := fun k => match k with
  | 0 => ("BlanketKeys$Reader", "signs", "Ljava/lang/CharSequence;", true)
  | _ => ("BlanketKeys$Reader", "place", "I", false)
def tyX7 : Nat → FieldType := fun k => match k with
  | 0 => .object "java/lang/CharSequence"
  | _ => .int
abbrev wsX70 : List Cond := u_ws RX7 TX7 2
theorem nmX7 : ∀ a, a < 2 → ∀ b, b < 2 → a ≠ b → (TX7 a).2.1 ≠ (TX7 b).2.1 := by decide +kernel
theorem tyX7_ok : ∀ k, k < 2 → parseFieldDescriptor (TX7 k).2.2.1 = some (tyX7 k) := by decide +kernel
abbrev cX7_init : ByteArray := prog_5_method_1_code
def yX7_init : MethodName := ⟨RX7, "<init>", "(Ljava/lang/CharSequence;)V"⟩
def dkwX7_init_0 : List UInt8 := [42, 183, 0, 3, 42, 43, 181, 0, 9, 177]
abbrev dktX7_init_0 : List UInt8 := dkwX7_init_0 ++ []
theorem dksX7_init_0 : cX7_init.data.toList.drop 0 = dktX7_init_0 := by decide +kernel
theorem dX7_init_0 : decode cX7_init 0 = .ok (.aload_n 0, 1) := dk_42 (dk_at dksX7_init_0 0 rfl rfl)
theorem dX7_init_1 : decode cX7_init 1 = .ok (.invokespecial 3, 3) := dk_183 0 3 (dk_at dksX7_init_0 1 rfl rfl)
theorem dX7_init_4 : decode cX7_init 4 = .ok (.aload_n 0, 1) := dk_42 (dk_at dksX7_init_0 4 rfl rfl)
theorem dX7_init_5 : decode cX7_init 5 = .ok (.aload_n 1, 1) := dk_43 (dk_at dksX7_init_0 5 rfl rfl)
theorem dX7_init_6 : decode cX7_init 6 = .ok (.putfield 9, 3) := dk_181 0 9 (dk_at dksX7_init_0 6 rfl rfl)
theorem dX7_init_9 : decode cX7_init 9 = .ok (.return_, 1) := dk_177 (dk_at dksX7_init_0 9 rfl rfl)
abbrev cX7_moves : ByteArray := prog_5_method_7_code
def yX7_moves : MethodName := ⟨RX7, "moves", "()Ljava/util/List;"⟩
def dkwX7_moves_3 : List UInt8 := [43, 176]
abbrev dktX7_moves_3 : List UInt8 := dkwX7_moves_3 ++ []
def dkwX7_moves_2 : List UInt8 := [42, 89, 180, 0, 15, 4, 96, 181, 0, 15, 43, 42, 182, 0, 58, 185, 0, 62, 2, 0, 87, 167, 255, 207]
abbrev dktX7_moves_2 : List UInt8 := dkwX7_moves_2 ++ dktX7_moves_3
def dkwX7_moves_1 : List UInt8 := [154, 0, 48, 42, 182, 0, 42, 16, 59, 159, 0, 15, 187, 0, 29, 89, 42, 180, 0, 15, 183, 0, 31, 191]
abbrev dktX7_moves_1 : List UInt8 := dkwX7_moves_1 ++ dktX7_moves_2
def dkwX7_moves_0 : List UInt8 := [187, 0, 55, 89, 183, 0, 57, 76, 43, 42, 182, 0, 58, 185, 0, 62, 2, 0, 87, 42, 182, 0, 25]
abbrev dktX7_moves_0 : List UInt8 := dkwX7_moves_0 ++ dktX7_moves_1
theorem dksX7_moves_0 : cX7_moves.data.toList.drop 0 = dktX7_moves_0 := by decide +kernel
theorem dksX7_moves_1 : cX7_moves.data.toList.drop 23 = dktX7_moves_1 := dk_seg dksX7_moves_0 23 rfl rfl
theorem dksX7_moves_2 : cX7_moves.data.toList.drop 47 = dktX7_moves_2 := dk_seg dksX7_moves_1 24 rfl rfl
theorem dksX7_moves_3 : cX7_moves.data.toList.drop 71 = dktX7_moves_3 := dk_seg dksX7_moves_2 24 rfl rfl
theorem dX7_moves_0 : decode cX7_moves 0 = .ok (.new 55, 3) := dk_187 0 55 (dk_at dksX7_moves_0 0 rfl rfl)
theorem dX7_moves_3 : decode cX7_moves 3 = .ok (.dup, 1) := dk_89 (dk_at dksX7_moves_0 3 rfl rfl)
theorem dX7_moves_4 : decode cX7_moves 4 = .ok (.invokespecial 57, 3) := dk_183 0 57 (dk_at dksX7_moves_0 4 rfl rfl)
theorem dX7_moves_7 : decode cX7_moves 7 = .ok (.astore_n 1, 1) := dk_76 (dk_at dksX7_moves_0 7 rfl rfl)
theorem dX7_moves_8 : decode cX7_moves 8 = .ok (.aload_n 1, 1) := dk_43 (dk_at dksX7_moves_0 8 rfl rfl)
theorem dX7_moves_9 : decode cX7_moves 9 = .ok (.aload_n 0, 1) := dk_42 (dk_at dksX7_moves_0 9 rfl rfl)
theorem dX7_moves_10 : decode cX7_moves 10 = .ok (.invokevirtual 58, 3) := dk_182 0 58 (dk_at dksX7_moves_0 10 rfl rfl)
theorem dX7_moves_13 : decode cX7_moves 13 = .ok (.invokeinterface 62 2, 5) := by decide +kernel
theorem dX7_moves_18 : decode cX7_moves 18 = .ok (.pop, 1) := dk_87 (dk_at dksX7_moves_0 18 rfl rfl)
theorem dX7_moves_19 : decode cX7_moves 19 = .ok (.aload_n 0, 1) := dk_42 (dk_at dksX7_moves_0 19 rfl rfl)
theorem dX7_moves_20 : decode cX7_moves 20 = .ok (.invokevirtual 25, 3) := dk_182 0 25 (dk_at dksX7_moves_0 20 rfl rfl)
theorem dX7_moves_23 : decode cX7_moves 23 = .ok (.ifCond .ne 48, 3) := dk_154 0 48 (dk_at dksX7_moves_1 0 rfl rfl)
theorem dX7_moves_26 : decode cX7_moves 26 = .ok (.aload_n 0, 1) := dk_42 (dk_at dksX7_moves_1 3 rfl rfl)
theorem dX7_moves_27 : decode cX7_moves 27 = .ok (.invokevirtual 42, 3) := dk_182 0 42 (dk_at dksX7_moves_1 4 rfl rfl)
theorem dX7_moves_30 : decode cX7_moves 30 = .ok (.bipush 59, 2) := dk_16 59 (dk_at dksX7_moves_1 7 rfl rfl)
theorem dX7_moves_32 : decode cX7_moves 32 = .ok (.if_icmp .eq 15, 3) := dk_159 0 15 (dk_at dksX7_moves_1 9 rfl rfl)
theorem dX7_moves_35 : decode cX7_moves 35 = .ok (.new 29, 3) := dk_187 0 29 (dk_at dksX7_moves_1 12 rfl rfl)
theorem dX7_moves_38 : decode cX7_moves 38 = .ok (.dup, 1) := dk_89 (dk_at dksX7_moves_1 15 rfl rfl)
theorem dX7_moves_39 : decode cX7_moves 39 = .ok (.aload_n 0, 1) := dk_42 (dk_at dksX7_moves_1 16 rfl rfl)
theorem dX7_moves_40 : decode cX7_moves 40 = .ok (.getfield 15, 3) := dk_180 0 15 (dk_at dksX7_moves_1 17 rfl rfl)
theorem dX7_moves_43 : decode cX7_moves 43 = .ok (.invokespecial 31, 3) := dk_183 0 31 (dk_at dksX7_moves_1 20 rfl rfl)
theorem dX7_moves_46 : decode cX7_moves 46 = .ok (.athrow, 1) := dk_191 (dk_at dksX7_moves_1 23 rfl rfl)
theorem dX7_moves_47 : decode cX7_moves 47 = .ok (.aload_n 0, 1) := dk_42 (dk_at dksX7_moves_2 0 rfl rfl)
theorem dX7_moves_48 : decode cX7_moves 48 = .ok (.dup, 1) := dk_89 (dk_at dksX7_moves_2 1 rfl rfl)
theorem dX7_moves_49 : decode cX7_moves 49 = .ok (.getfield 15, 3) := dk_180 0 15 (dk_at dksX7_moves_2 2 rfl rfl)
theorem dX7_moves_52 : decode cX7_moves 52 = .ok (.iconst 1, 1) := dk_4 (dk_at dksX7_moves_2 5 rfl rfl)
theorem dX7_moves_53 : decode cX7_moves 53 = .ok (.iadd, 1) := dk_96 (dk_at dksX7_moves_2 6 rfl rfl)
theorem dX7_moves_54 : decode cX7_moves 54 = .ok (.putfield 15, 3) := dk_181 0 15 (dk_at dksX7_moves_2 7 rfl rfl)
theorem dX7_moves_57 : decode cX7_moves 57 = .ok (.aload_n 1, 1) := dk_43 (dk_at dksX7_moves_2 10 rfl rfl)
theorem dX7_moves_58 : decode cX7_moves 58 = .ok (.aload_n 0, 1) := dk_42 (dk_at dksX7_moves_2 11 rfl rfl)
theorem dX7_moves_59 : decode cX7_moves 59 = .ok (.invokevirtual 58, 3) := dk_182 0 58 (dk_at dksX7_moves_2 12 rfl rfl)
theorem dX7_moves_62 : decode cX7_moves 62 = .ok (.invokeinterface 62 2, 5) := by decide +kernel
theorem dX7_moves_67 : decode cX7_moves 67 = .ok (.pop, 1) := dk_87 (dk_at dksX7_moves_2 20 rfl rfl)
theorem dX7_moves_68 : decode cX7_moves 68 = .ok (.goto (-49), 3) := dk_167 255 207 (dk_at dksX7_moves_2 21 rfl rfl)
theorem dX7_moves_71 : decode cX7_moves 71 = .ok (.aload_n 1, 1) := dk_43 (dk_at dksX7_moves_3 0 rfl rfl)
theorem dX7_moves_72 : decode cX7_moves 72 = .ok (.areturn, 1) := dk_176 (dk_at dksX7_moves_3 1 rfl rfl)
abbrev cX7_move : ByteArray := prog_5_method_6_code
def yX7_move : MethodName := ⟨RX7, "move", "()LBlanketKeys$Move;"⟩
def dkwX7_move_5 : List UInt8 := [16, 100, 160, 0, 7, 4, 167, 0, 4, 3, 42, 3, 182, 0, 48, 183, 0, 52, 176]
abbrev dktX7_move_5 : List UInt8 := dkwX7_move_5 ++ []
def dkwX7_move_4 : List UInt8 := [183, 0, 31, 191, 42, 89, 180, 0, 15, 4, 96, 181, 0, 15, 187, 0, 46, 89, 27, 16, 48, 100, 28]
abbrev dktX7_move_4 : List UInt8 := dkwX7_move_4 ++ dktX7_move_5
def dkwX7_move_3 : List UInt8 := [182, 0, 42, 61, 28, 16, 100, 159, 0, 21, 28, 16, 117, 159, 0, 15, 187, 0, 29, 89, 42, 180, 0, 15]
abbrev dktX7_move_3 : List UInt8 := dkwX7_move_3 ++ dktX7_move_4
def dkwX7_move_2 : List UInt8 := [16, 116, 160, 0, 19, 187, 0, 46, 89, 16, 251, 3, 42, 4, 182, 0, 48, 183, 0, 52, 176, 42]
abbrev dktX7_move_2 : List UInt8 := dkwX7_move_2 ++ dktX7_move_3
def dkwX7_move_1 : List UInt8 := [187, 0, 29, 89, 42, 180, 0, 15, 183, 0, 31, 191, 42, 89, 180, 0, 15, 4, 96, 181, 0, 15, 27]
abbrev dktX7_move_1 : List UInt8 := dkwX7_move_1 ++ dktX7_move_2
def dkwX7_move_0 : List UInt8 := [42, 182, 0, 42, 60, 27, 16, 116, 159, 0, 27, 27, 16, 48, 159, 0, 21, 27, 16, 49, 159, 0, 15]
abbrev dktX7_move_0 : List UInt8 := dkwX7_move_0 ++ dktX7_move_1
theorem dksX7_move_0 : cX7_move.data.toList.drop 0 = dktX7_move_0 := by decide +kernel
theorem dksX7_move_1 : cX7_move.data.toList.drop 23 = dktX7_move_1 := dk_seg dksX7_move_0 23 rfl rfl
theorem dksX7_move_2 : cX7_move.data.toList.drop 46 = dktX7_move_2 := dk_seg dksX7_move_1 23 rfl rfl
theorem dksX7_move_3 : cX7_move.data.toList.drop 68 = dktX7_move_3 := dk_seg dksX7_move_2 22 rfl rfl
theorem dksX7_move_4 : cX7_move.data.toList.drop 92 = dktX7_move_4 := dk_seg dksX7_move_3 24 rfl rfl
theorem dksX7_move_5 : cX7_move.data.toList.drop 115 = dktX7_move_5 := dk_seg dksX7_move_4 23 rfl rfl
theorem dX7_move_0 : decode cX7_move 0 = .ok (.aload_n 0, 1) := dk_42 (dk_at dksX7_move_0 0 rfl rfl)
theorem dX7_move_1 : decode cX7_move 1 = .ok (.invokevirtual 42, 3) := dk_182 0 42 (dk_at dksX7_move_0 1 rfl rfl)
theorem dX7_move_4 : decode cX7_move 4 = .ok (.istore_n 1, 1) := dk_60 (dk_at dksX7_move_0 4 rfl rfl)
theorem dX7_move_5 : decode cX7_move 5 = .ok (.iload_n 1, 1) := dk_27 (dk_at dksX7_move_0 5 rfl rfl)
theorem dX7_move_6 : decode cX7_move 6 = .ok (.bipush 116, 2) := dk_16 116 (dk_at dksX7_move_0 6 rfl rfl)
theorem dX7_move_8 : decode cX7_move 8 = .ok (.if_icmp .eq 27, 3) := dk_159 0 27 (dk_at dksX7_move_0 8 rfl rfl)
theorem dX7_move_11 : decode cX7_move 11 = .ok (.iload_n 1, 1) := dk_27 (dk_at dksX7_move_0 11 rfl rfl)
theorem dX7_move_12 : decode cX7_move 12 = .ok (.bipush 48, 2) := dk_16 48 (dk_at dksX7_move_0 12 rfl rfl)
theorem dX7_move_14 : decode cX7_move 14 = .ok (.if_icmp .eq 21, 3) := dk_159 0 21 (dk_at dksX7_move_0 14 rfl rfl)
theorem dX7_move_17 : decode cX7_move 17 = .ok (.iload_n 1, 1) := dk_27 (dk_at dksX7_move_0 17 rfl rfl)
theorem dX7_move_18 : decode cX7_move 18 = .ok (.bipush 49, 2) := dk_16 49 (dk_at dksX7_move_0 18 rfl rfl)
theorem dX7_move_20 : decode cX7_move 20 = .ok (.if_icmp .eq 15, 3) := dk_159 0 15 (dk_at dksX7_move_0 20 rfl rfl)
theorem dX7_move_23 : decode cX7_move 23 = .ok (.new 29, 3) := dk_187 0 29 (dk_at dksX7_move_1 0 rfl rfl)
theorem dX7_move_26 : decode cX7_move 26 = .ok (.dup, 1) := dk_89 (dk_at dksX7_move_1 3 rfl rfl)
theorem dX7_move_27 : decode cX7_move 27 = .ok (.aload_n 0, 1) := dk_42 (dk_at dksX7_move_1 4 rfl rfl)
theorem dX7_move_28 : decode cX7_move 28 = .ok (.getfield 15, 3) := dk_180 0 15 (dk_at dksX7_move_1 5 rfl rfl)
theorem dX7_move_31 : decode cX7_move 31 = .ok (.invokespecial 31, 3) := dk_183 0 31 (dk_at dksX7_move_1 8 rfl rfl)
theorem dX7_move_34 : decode cX7_move 34 = .ok (.athrow, 1) := dk_191 (dk_at dksX7_move_1 11 rfl rfl)
theorem dX7_move_35 : decode cX7_move 35 = .ok (.aload_n 0, 1) := dk_42 (dk_at dksX7_move_1 12 rfl rfl)
theorem dX7_move_36 : decode cX7_move 36 = .ok (.dup, 1) := dk_89 (dk_at dksX7_move_1 13 rfl rfl)
theorem dX7_move_37 : decode cX7_move 37 = .ok (.getfield 15, 3) := dk_180 0 15 (dk_at dksX7_move_1 14 rfl rfl)
theorem dX7_move_40 : decode cX7_move 40 = .ok (.iconst 1, 1) := dk_4 (dk_at dksX7_move_1 17 rfl rfl)
theorem dX7_move_41 : decode cX7_move 41 = .ok (.iadd, 1) := dk_96 (dk_at dksX7_move_1 18 rfl rfl)
theorem dX7_move_42 : decode cX7_move 42 = .ok (.putfield 15, 3) := dk_181 0 15 (dk_at dksX7_move_1 19 rfl rfl)
theorem dX7_move_45 : decode cX7_move 45 = .ok (.iload_n 1, 1) := dk_27 (dk_at dksX7_move_1 22 rfl rfl)
theorem dX7_move_46 : decode cX7_move 46 = .ok (.bipush 116, 2) := dk_16 116 (dk_at dksX7_move_2 0 rfl rfl)
theorem dX7_move_48 : decode cX7_move 48 = .ok (.if_icmp .ne 19, 3) := dk_160 0 19 (dk_at dksX7_move_2 2 rfl rfl)
theorem dX7_move_51 : decode cX7_move 51 = .ok (.new 46, 3) := dk_187 0 46 (dk_at dksX7_move_2 5 rfl rfl)
theorem dX7_move_54 : decode cX7_move 54 = .ok (.dup, 1) := dk_89 (dk_at dksX7_move_2 8 rfl rfl)
theorem dX7_move_55 : decode cX7_move 55 = .ok (.bipush (-5), 2) := dk_16 251 (dk_at dksX7_move_2 9 rfl rfl)
theorem dX7_move_57 : decode cX7_move 57 = .ok (.iconst 0, 1) := dk_3 (dk_at dksX7_move_2 11 rfl rfl)
theorem dX7_move_58 : decode cX7_move 58 = .ok (.aload_n 0, 1) := dk_42 (dk_at dksX7_move_2 12 rfl rfl)
theorem dX7_move_59 : decode cX7_move 59 = .ok (.iconst 1, 1) := dk_4 (dk_at dksX7_move_2 13 rfl rfl)
theorem dX7_move_60 : decode cX7_move 60 = .ok (.invokevirtual 48, 3) := dk_182 0 48 (dk_at dksX7_move_2 14 rfl rfl)
theorem dX7_move_63 : decode cX7_move 63 = .ok (.invokespecial 52, 3) := dk_183 0 52 (dk_at dksX7_move_2 17 rfl rfl)
theorem dX7_move_66 : decode cX7_move 66 = .ok (.areturn, 1) := dk_176 (dk_at dksX7_move_2 20 rfl rfl)
theorem dX7_move_67 : decode cX7_move 67 = .ok (.aload_n 0, 1) := dk_42 (dk_at dksX7_move_2 21 rfl rfl)
theorem dX7_move_68 : decode cX7_move 68 = .ok (.invokevirtual 42, 3) := dk_182 0 42 (dk_at dksX7_move_3 0 rfl rfl)
theorem dX7_move_71 : decode cX7_move 71 = .ok (.istore_n 2, 1) := dk_61 (dk_at dksX7_move_3 3 rfl rfl)
theorem dX7_move_72 : decode cX7_move 72 = .ok (.iload_n 2, 1) := dk_28 (dk_at dksX7_move_3 4 rfl rfl)
theorem dX7_move_73 : decode cX7_move 73 = .ok (.bipush 100, 2) := dk_16 100 (dk_at dksX7_move_3 5 rfl rfl)
theorem dX7_move_75 : decode cX7_move 75 = .ok (.if_icmp .eq 21, 3) := dk_159 0 21 (dk_at dksX7_move_3 7 rfl rfl)
theorem dX7_move_78 : decode cX7_move 78 = .ok (.iload_n 2, 1) := dk_28 (dk_at dksX7_move_3 10 rfl rfl)
theorem dX7_move_79 : decode cX7_move 79 = .ok (.bipush 117, 2) := dk_16 117 (dk_at dksX7_move_3 11 rfl rfl)
theorem dX7_move_81 : decode cX7_move 81 = .ok (.if_icmp .eq 15, 3) := dk_159 0 15 (dk_at dksX7_move_3 13 rfl rfl)
theorem dX7_move_84 : decode cX7_move 84 = .ok (.new 29, 3) := dk_187 0 29 (dk_at dksX7_move_3 16 rfl rfl)
theorem dX7_move_87 : decode cX7_move 87 = .ok (.dup, 1) := dk_89 (dk_at dksX7_move_3 19 rfl rfl)
theorem dX7_move_88 : decode cX7_move 88 = .ok (.aload_n 0, 1) := dk_42 (dk_at dksX7_move_3 20 rfl rfl)
theorem dX7_move_89 : decode cX7_move 89 = .ok (.getfield 15, 3) := dk_180 0 15 (dk_at dksX7_move_3 21 rfl rfl)
theorem dX7_move_92 : decode cX7_move 92 = .ok (.invokespecial 31, 3) := dk_183 0 31 (dk_at dksX7_move_4 0 rfl rfl)
theorem dX7_move_95 : decode cX7_move 95 = .ok (.athrow, 1) := dk_191 (dk_at dksX7_move_4 3 rfl rfl)
theorem dX7_move_96 : decode cX7_move 96 = .ok (.aload_n 0, 1) := dk_42 (dk_at dksX7_move_4 4 rfl rfl)
theorem dX7_move_97 : decode cX7_move 97 = .ok (.dup, 1) := dk_89 (dk_at dksX7_move_4 5 rfl rfl)
theorem dX7_move_98 : decode cX7_move 98 = .ok (.getfield 15, 3) := dk_180 0 15 (dk_at dksX7_move_4 6 rfl rfl)
theorem dX7_move_101 : decode cX7_move 101 = .ok (.iconst 1, 1) := dk_4 (dk_at dksX7_move_4 9 rfl rfl)
theorem dX7_move_102 : decode cX7_move 102 = .ok (.iadd, 1) := dk_96 (dk_at dksX7_move_4 10 rfl rfl)
theorem dX7_move_103 : decode cX7_move 103 = .ok (.putfield 15, 3) := dk_181 0 15 (dk_at dksX7_move_4 11 rfl rfl)
theorem dX7_move_106 : decode cX7_move 106 = .ok (.new 46, 3) := dk_187 0 46 (dk_at dksX7_move_4 14 rfl rfl)
theorem dX7_move_109 : decode cX7_move 109 = .ok (.dup, 1) := dk_89 (dk_at dksX7_move_4 17 rfl rfl)
theorem dX7_move_110 : decode cX7_move 110 = .ok (.iload_n 1, 1) := dk_27 (dk_at dksX7_move_4 18 rfl rfl)
theorem dX7_move_111 : decode cX7_move 111 = .ok (.bipush 48, 2) := dk_16 48 (dk_at dksX7_move_4 19 rfl rfl)
theorem dX7_move_113 : decode cX7_move 113 = .ok (.isub, 1) := dk_100 (dk_at dksX7_move_4 21 rfl rfl)
theorem dX7_move_114 : decode cX7_move 114 = .ok (.iload_n 2, 1) := dk_28 (dk_at dksX7_move_4 22 rfl rfl)
theorem dX7_move_115 : decode cX7_move 115 = .ok (.bipush 100, 2) := dk_16 100 (dk_at dksX7_move_5 0 rfl rfl)
theorem dX7_move_117 : decode cX7_move 117 = .ok (.if_icmp .ne 7, 3) := dk_160 0 7 (dk_at dksX7_move_5 2 rfl rfl)
theorem dX7_move_120 : decode cX7_move 120 = .ok (.iconst 1, 1) := dk_4 (dk_at dksX7_move_5 5 rfl rfl)
theorem dX7_move_121 : decode cX7_move 121 = .ok (.goto 4, 3) := dk_167 0 4 (dk_at dksX7_move_5 6 rfl rfl)
theorem dX7_move_124 : decode cX7_move 124 = .ok (.iconst 0, 1) := dk_3 (dk_at dksX7_move_5 9 rfl rfl)
theorem dX7_move_125 : decode cX7_move 125 = .ok (.aload_n 0, 1) := dk_42 (dk_at dksX7_move_5 10 rfl rfl)
theorem dX7_move_126 : decode cX7_move 126 = .ok (.iconst 0, 1) := dk_3 (dk_at dksX7_move_5 11 rfl rfl)
theorem dX7_move_127 : decode cX7_move 127 = .ok (.invokevirtual 48, 3) := dk_182 0 48 (dk_at dksX7_move_5 12 rfl rfl)
theorem dX7_move_130 : decode cX7_move 130 = .ok (.invokespecial 52, 3) := dk_183 0 52 (dk_at dksX7_move_5 15 rfl rfl)
theorem dX7_move_133 : decode cX7_move 133 = .ok (.areturn, 1) := dk_176 (dk_at dksX7_move_5 18 rfl rfl)
abbrev cX7_next : ByteArray := prog_5_method_3_code
def yX7_next : MethodName := ⟨RX7, "next", "()C"⟩
def dkwX7_next_1 : List UInt8 := [180, 0, 15, 185, 0, 34, 2, 0, 172]
abbrev dktX7_next_1 : List UInt8 := dkwX7_next_1 ++ []
def dkwX7_next_0 : List UInt8 := [42, 182, 0, 25, 153, 0, 15, 187, 0, 29, 89, 42, 180, 0, 15, 183, 0, 31, 191, 42, 180, 0, 9, 42]
abbrev dktX7_next_0 : List UInt8 := dkwX7_next_0 ++ dktX7_next_1
theorem dksX7_next_0 : cX7_next.data.toList.drop 0 = dktX7_next_0 := by decide +kernel
theorem dksX7_next_1 : cX7_next.data.toList.drop 24 = dktX7_next_1 := dk_seg dksX7_next_0 24 rfl rfl
theorem dX7_next_0 : decode cX7_next 0 = .ok (.aload_n 0, 1) := dk_42 (dk_at dksX7_next_0 0 rfl rfl)
theorem dX7_next_1 : decode cX7_next 1 = .ok (.invokevirtual 25, 3) := dk_182 0 25 (dk_at dksX7_next_0 1 rfl rfl)
theorem dX7_next_4 : decode cX7_next 4 = .ok (.ifCond .eq 15, 3) := dk_153 0 15 (dk_at dksX7_next_0 4 rfl rfl)
theorem dX7_next_7 : decode cX7_next 7 = .ok (.new 29, 3) := dk_187 0 29 (dk_at dksX7_next_0 7 rfl rfl)
theorem dX7_next_10 : decode cX7_next 10 = .ok (.dup, 1) := dk_89 (dk_at dksX7_next_0 10 rfl rfl)
theorem dX7_next_11 : decode cX7_next 11 = .ok (.aload_n 0, 1) := dk_42 (dk_at dksX7_next_0 11 rfl rfl)
theorem dX7_next_12 : decode cX7_next 12 = .ok (.getfield 15, 3) := dk_180 0 15 (dk_at dksX7_next_0 12 rfl rfl)
theorem dX7_next_15 : decode cX7_next 15 = .ok (.invokespecial 31, 3) := dk_183 0 31 (dk_at dksX7_next_0 15 rfl rfl)
theorem dX7_next_18 : decode cX7_next 18 = .ok (.athrow, 1) := dk_191 (dk_at dksX7_next_0 18 rfl rfl)
theorem dX7_next_19 : decode cX7_next 19 = .ok (.aload_n 0, 1) := dk_42 (dk_at dksX7_next_0 19 rfl rfl)
theorem dX7_next_20 : decode cX7_next 20 = .ok (.getfield 9, 3) := dk_180 0 9 (dk_at dksX7_next_0 20 rfl rfl)
theorem dX7_next_23 : decode cX7_next 23 = .ok (.aload_n 0, 1) := dk_42 (dk_at dksX7_next_0 23 rfl rfl)
theorem dX7_next_24 : decode cX7_next 24 = .ok (.getfield 15, 3) := dk_180 0 15 (dk_at dksX7_next_1 0 rfl rfl)
theorem dX7_next_27 : decode cX7_next 27 = .ok (.invokeinterface 34 2, 5) := by decide +kernel
theorem dX7_next_32 : decode cX7_next 32 = .ok (.ireturn, 1) := dk_172 (dk_at dksX7_next_1 8 rfl rfl)
abbrev cX7_isAtEnd : ByteArray := prog_5_method_2_code
def yX7_isAtEnd : MethodName := ⟨RX7, "isAtEnd", "()Z"⟩
def dkwX7_isAtEnd_0 : List UInt8 := [42, 180, 0, 15, 42, 180, 0, 9, 185, 0, 19, 1, 0, 160, 0, 7, 4, 167, 0, 4, 3, 172]
abbrev dktX7_isAtEnd_0 : List UInt8 := dkwX7_isAtEnd_0 ++ []
theorem dksX7_isAtEnd_0 : cX7_isAtEnd.data.toList.drop 0 = dktX7_isAtEnd_0 := by decide +kernel
theorem dX7_isAtEnd_0 : decode cX7_isAtEnd 0 = .ok (.aload_n 0, 1) := dk_42 (dk_at dksX7_isAtEnd_0 0 rfl rfl)
theorem dX7_isAtEnd_1 : decode cX7_isAtEnd 1 = .ok (.getfield 15, 3) := dk_180 0 15 (dk_at dksX7_isAtEnd_0 1 rfl rfl)
theorem dX7_isAtEnd_4 : decode cX7_isAtEnd 4 = .ok (.aload_n 0, 1) := dk_42 (dk_at dksX7_isAtEnd_0 4 rfl rfl)
theorem dX7_isAtEnd_5 : decode cX7_isAtEnd 5 = .ok (.getfield 9, 3) := dk_180 0 9 (dk_at dksX7_isAtEnd_0 5 rfl rfl)
theorem dX7_isAtEnd_8 : decode cX7_isAtEnd 8 = .ok (.invokeinterface 19 1, 5) := by decide +kernel
theorem dX7_isAtEnd_13 : decode cX7_isAtEnd 13 = .ok (.if_icmp .ne 7, 3) := dk_160 0 7 (dk_at dksX7_isAtEnd_0 13 rfl rfl)
theorem dX7_isAtEnd_16 : decode cX7_isAtEnd 16 = .ok (.iconst 1, 1) := dk_4 (dk_at dksX7_isAtEnd_0 16 rfl rfl)
theorem dX7_isAtEnd_17 : decode cX7_isAtEnd 17 = .ok (.goto 4, 3) := dk_167 0 4 (dk_at dksX7_isAtEnd_0 17 rfl rfl)
theorem dX7_isAtEnd_20 : decode cX7_isAtEnd 20 = .ok (.iconst 0, 1) := dk_3 (dk_at dksX7_isAtEnd_0 20 rfl rfl)
theorem dX7_isAtEnd_21 : decode cX7_isAtEnd 21 = .ok (.ireturn, 1) := dk_172 (dk_at dksX7_isAtEnd_0 21 rfl rfl)
abbrev cX7_number : ByteArray := prog_5_method_5_code
def yX7_number : MethodName := ⟨RX7, "number", "(I)I"⟩
def dkwX7_number_3 : List UInt8 := [181, 0, 15, 185, 0, 34, 2, 0, 96, 16, 48, 100, 167, 0, 4, 28, 172]
abbrev dktX7_number_3 : List UInt8 := dkwX7_number_3 ++ []
def dkwX7_number_2 : List UInt8 := [42, 3, 182, 0, 38, 153, 0, 34, 16, 10, 28, 104, 42, 180, 0, 9, 42, 89, 180, 0, 15, 90, 4, 96]
abbrev dktX7_number_2 : List UInt8 := dkwX7_number_2 ++ dktX7_number_3
def dkwX7_number_1 : List UInt8 := [42, 89, 180, 0, 15, 90, 4, 96, 181, 0, 15, 185, 0, 34, 2, 0, 16, 48, 100, 61, 28, 158, 0, 42]
abbrev dktX7_number_1 : List UInt8 := dkwX7_number_1 ++ dktX7_number_2
def dkwX7_number_0 : List UInt8 := [42, 27, 182, 0, 38, 154, 0, 15, 187, 0, 29, 89, 42, 180, 0, 15, 183, 0, 31, 191, 42, 180, 0, 9]
abbrev dktX7_number_0 : List UInt8 := dkwX7_number_0 ++ dktX7_number_1
theorem dksX7_number_0 : cX7_number.data.toList.drop 0 = dktX7_number_0 := by decide +kernel
theorem dksX7_number_1 : cX7_number.data.toList.drop 24 = dktX7_number_1 := dk_seg dksX7_number_0 24 rfl rfl
theorem dksX7_number_2 : cX7_number.data.toList.drop 48 = dktX7_number_2 := dk_seg dksX7_number_1 24 rfl rfl
theorem dksX7_number_3 : cX7_number.data.toList.drop 72 = dktX7_number_3 := dk_seg dksX7_number_2 24 rfl rfl
theorem dX7_number_0 : decode cX7_number 0 = .ok (.aload_n 0, 1) := dk_42 (dk_at dksX7_number_0 0 rfl rfl)
theorem dX7_number_1 : decode cX7_number 1 = .ok (.iload_n 1, 1) := dk_27 (dk_at dksX7_number_0 1 rfl rfl)
theorem dX7_number_2 : decode cX7_number 2 = .ok (.invokevirtual 38, 3) := dk_182 0 38 (dk_at dksX7_number_0 2 rfl rfl)
theorem dX7_number_5 : decode cX7_number 5 = .ok (.ifCond .ne 15, 3) := dk_154 0 15 (dk_at dksX7_number_0 5 rfl rfl)
theorem dX7_number_8 : decode cX7_number 8 = .ok (.new 29, 3) := dk_187 0 29 (dk_at dksX7_number_0 8 rfl rfl)
theorem dX7_number_11 : decode cX7_number 11 = .ok (.dup, 1) := dk_89 (dk_at dksX7_number_0 11 rfl rfl)
theorem dX7_number_12 : decode cX7_number 12 = .ok (.aload_n 0, 1) := dk_42 (dk_at dksX7_number_0 12 rfl rfl)
theorem dX7_number_13 : decode cX7_number 13 = .ok (.getfield 15, 3) := dk_180 0 15 (dk_at dksX7_number_0 13 rfl rfl)
theorem dX7_number_16 : decode cX7_number 16 = .ok (.invokespecial 31, 3) := dk_183 0 31 (dk_at dksX7_number_0 16 rfl rfl)
theorem dX7_number_19 : decode cX7_number 19 = .ok (.athrow, 1) := dk_191 (dk_at dksX7_number_0 19 rfl rfl)
theorem dX7_number_20 : decode cX7_number 20 = .ok (.aload_n 0, 1) := dk_42 (dk_at dksX7_number_0 20 rfl rfl)
theorem dX7_number_21 : decode cX7_number 21 = .ok (.getfield 9, 3) := dk_180 0 9 (dk_at dksX7_number_0 21 rfl rfl)
theorem dX7_number_24 : decode cX7_number 24 = .ok (.aload_n 0, 1) := dk_42 (dk_at dksX7_number_1 0 rfl rfl)
theorem dX7_number_25 : decode cX7_number 25 = .ok (.dup, 1) := dk_89 (dk_at dksX7_number_1 1 rfl rfl)
theorem dX7_number_26 : decode cX7_number 26 = .ok (.getfield 15, 3) := dk_180 0 15 (dk_at dksX7_number_1 2 rfl rfl)
theorem dX7_number_29 : decode cX7_number 29 = .ok (.dup_x1, 1) := dk_90 (dk_at dksX7_number_1 5 rfl rfl)
theorem dX7_number_30 : decode cX7_number 30 = .ok (.iconst 1, 1) := dk_4 (dk_at dksX7_number_1 6 rfl rfl)
theorem dX7_number_31 : decode cX7_number 31 = .ok (.iadd, 1) := dk_96 (dk_at dksX7_number_1 7 rfl rfl)
theorem dX7_number_32 : decode cX7_number 32 = .ok (.putfield 15, 3) := dk_181 0 15 (dk_at dksX7_number_1 8 rfl rfl)
theorem dX7_number_35 : decode cX7_number 35 = .ok (.invokeinterface 34 2, 5) := by decide +kernel
theorem dX7_number_40 : decode cX7_number 40 = .ok (.bipush 48, 2) := dk_16 48 (dk_at dksX7_number_1 16 rfl rfl)
theorem dX7_number_42 : decode cX7_number 42 = .ok (.isub, 1) := dk_100 (dk_at dksX7_number_1 18 rfl rfl)
theorem dX7_number_43 : decode cX7_number 43 = .ok (.istore_n 2, 1) := dk_61 (dk_at dksX7_number_1 19 rfl rfl)
theorem dX7_number_44 : decode cX7_number 44 = .ok (.iload_n 2, 1) := dk_28 (dk_at dksX7_number_1 20 rfl rfl)
theorem dX7_number_45 : decode cX7_number 45 = .ok (.ifCond .le 42, 3) := dk_158 0 42 (dk_at dksX7_number_1 21 rfl rfl)
theorem dX7_number_48 : decode cX7_number 48 = .ok (.aload_n 0, 1) := dk_42 (dk_at dksX7_number_2 0 rfl rfl)
theorem dX7_number_49 : decode cX7_number 49 = .ok (.iconst 0, 1) := dk_3 (dk_at dksX7_number_2 1 rfl rfl)
theorem dX7_number_50 : decode cX7_number 50 = .ok (.invokevirtual 38, 3) := dk_182 0 38 (dk_at dksX7_number_2 2 rfl rfl)
theorem dX7_number_53 : decode cX7_number 53 = .ok (.ifCond .eq 34, 3) := dk_153 0 34 (dk_at dksX7_number_2 5 rfl rfl)
theorem dX7_number_56 : decode cX7_number 56 = .ok (.bipush 10, 2) := dk_16 10 (dk_at dksX7_number_2 8 rfl rfl)
theorem dX7_number_58 : decode cX7_number 58 = .ok (.iload_n 2, 1) := dk_28 (dk_at dksX7_number_2 10 rfl rfl)
theorem dX7_number_59 : decode cX7_number 59 = .ok (.imul, 1) := dk_104 (dk_at dksX7_number_2 11 rfl rfl)
theorem dX7_number_60 : decode cX7_number 60 = .ok (.aload_n 0, 1) := dk_42 (dk_at dksX7_number_2 12 rfl rfl)
theorem dX7_number_61 : decode cX7_number 61 = .ok (.getfield 9, 3) := dk_180 0 9 (dk_at dksX7_number_2 13 rfl rfl)
theorem dX7_number_64 : decode cX7_number 64 = .ok (.aload_n 0, 1) := dk_42 (dk_at dksX7_number_2 16 rfl rfl)
theorem dX7_number_65 : decode cX7_number 65 = .ok (.dup, 1) := dk_89 (dk_at dksX7_number_2 17 rfl rfl)
theorem dX7_number_66 : decode cX7_number 66 = .ok (.getfield 15, 3) := dk_180 0 15 (dk_at dksX7_number_2 18 rfl rfl)
theorem dX7_number_69 : decode cX7_number 69 = .ok (.dup_x1, 1) := dk_90 (dk_at dksX7_number_2 21 rfl rfl)
theorem dX7_number_70 : decode cX7_number 70 = .ok (.iconst 1, 1) := dk_4 (dk_at dksX7_number_2 22 rfl rfl)
theorem dX7_number_71 : decode cX7_number 71 = .ok (.iadd, 1) := dk_96 (dk_at dksX7_number_2 23 rfl rfl)
theorem dX7_number_72 : decode cX7_number 72 = .ok (.putfield 15, 3) := dk_181 0 15 (dk_at dksX7_number_3 0 rfl rfl)
theorem dX7_number_75 : decode cX7_number 75 = .ok (.invokeinterface 34 2, 5) := by decide +kernel
theorem dX7_number_80 : decode cX7_number 80 = .ok (.iadd, 1) := dk_96 (dk_at dksX7_number_3 8 rfl rfl)
theorem dX7_number_81 : decode cX7_number 81 = .ok (.bipush 48, 2) := dk_16 48 (dk_at dksX7_number_3 9 rfl rfl)
theorem dX7_number_83 : decode cX7_number 83 = .ok (.isub, 1) := dk_100 (dk_at dksX7_number_3 11 rfl rfl)
theorem dX7_number_84 : decode cX7_number 84 = .ok (.goto 4, 3) := dk_167 0 4 (dk_at dksX7_number_3 12 rfl rfl)
theorem dX7_number_87 : decode cX7_number 87 = .ok (.iload_n 2, 1) := dk_28 (dk_at dksX7_number_3 15 rfl rfl)
theorem dX7_number_88 : decode cX7_number 88 = .ok (.ireturn, 1) := dk_172 (dk_at dksX7_number_3 16 rfl rfl)
abbrev cX7_isDigit : ByteArray := prog_5_method_4_code
def yX7_isDigit : MethodName := ⟨RX7, "isDigit", "(I)Z"⟩
def dkwX7_isDigit_2 : List UInt8 := [167, 0, 4, 3, 172]
abbrev dktX7_isDigit_2 : List UInt8 := dkwX7_isDigit_2 ++ []
def dkwX7_isDigit_1 : List UInt8 := [161, 0, 25, 42, 180, 0, 9, 42, 180, 0, 15, 185, 0, 34, 2, 0, 16, 57, 163, 0, 7, 4]
abbrev dktX7_isDigit_1 : List UInt8 := dkwX7_isDigit_1 ++ dktX7_isDigit_2
def dkwX7_isDigit_0 : List UInt8 := [42, 182, 0, 25, 154, 0, 45, 42, 180, 0, 9, 42, 180, 0, 15, 185, 0, 34, 2, 0, 16, 48, 27, 96]
abbrev dktX7_isDigit_0 : List UInt8 := dkwX7_isDigit_0 ++ dktX7_isDigit_1
theorem dksX7_isDigit_0 : cX7_isDigit.data.toList.drop 0 = dktX7_isDigit_0 := by decide +kernel
theorem dksX7_isDigit_1 : cX7_isDigit.data.toList.drop 24 = dktX7_isDigit_1 := dk_seg dksX7_isDigit_0 24 rfl rfl
theorem dksX7_isDigit_2 : cX7_isDigit.data.toList.drop 46 = dktX7_isDigit_2 := dk_seg dksX7_isDigit_1 22 rfl rfl
theorem dX7_isDigit_0 : decode cX7_isDigit 0 = .ok (.aload_n 0, 1) := dk_42 (dk_at dksX7_isDigit_0 0 rfl rfl)
theorem dX7_isDigit_1 : decode cX7_isDigit 1 = .ok (.invokevirtual 25, 3) := dk_182 0 25 (dk_at dksX7_isDigit_0 1 rfl rfl)
theorem dX7_isDigit_4 : decode cX7_isDigit 4 = .ok (.ifCond .ne 45, 3) := dk_154 0 45 (dk_at dksX7_isDigit_0 4 rfl rfl)
theorem dX7_isDigit_7 : decode cX7_isDigit 7 = .ok (.aload_n 0, 1) := dk_42 (dk_at dksX7_isDigit_0 7 rfl rfl)
theorem dX7_isDigit_8 : decode cX7_isDigit 8 = .ok (.getfield 9, 3) := dk_180 0 9 (dk_at dksX7_isDigit_0 8 rfl rfl)
theorem dX7_isDigit_11 : decode cX7_isDigit 11 = .ok (.aload_n 0, 1) := dk_42 (dk_at dksX7_isDigit_0 11 rfl rfl)
theorem dX7_isDigit_12 : decode cX7_isDigit 12 = .ok (.getfield 15, 3) := dk_180 0 15 (dk_at dksX7_isDigit_0 12 rfl rfl)
theorem dX7_isDigit_15 : decode cX7_isDigit 15 = .ok (.invokeinterface 34 2, 5) := by decide +kernel
theorem dX7_isDigit_20 : decode cX7_isDigit 20 = .ok (.bipush 48, 2) := dk_16 48 (dk_at dksX7_isDigit_0 20 rfl rfl)
theorem dX7_isDigit_22 : decode cX7_isDigit 22 = .ok (.iload_n 1, 1) := dk_27 (dk_at dksX7_isDigit_0 22 rfl rfl)
theorem dX7_isDigit_23 : decode cX7_isDigit 23 = .ok (.iadd, 1) := dk_96 (dk_at dksX7_isDigit_0 23 rfl rfl)
theorem dX7_isDigit_24 : decode cX7_isDigit 24 = .ok (.if_icmp .lt 25, 3) := dk_161 0 25 (dk_at dksX7_isDigit_1 0 rfl rfl)
theorem dX7_isDigit_27 : decode cX7_isDigit 27 = .ok (.aload_n 0, 1) := dk_42 (dk_at dksX7_isDigit_1 3 rfl rfl)
theorem dX7_isDigit_28 : decode cX7_isDigit 28 = .ok (.getfield 9, 3) := dk_180 0 9 (dk_at dksX7_isDigit_1 4 rfl rfl)
theorem dX7_isDigit_31 : decode cX7_isDigit 31 = .ok (.aload_n 0, 1) := dk_42 (dk_at dksX7_isDigit_1 7 rfl rfl)
theorem dX7_isDigit_32 : decode cX7_isDigit 32 = .ok (.getfield 15, 3) := dk_180 0 15 (dk_at dksX7_isDigit_1 8 rfl rfl)
theorem dX7_isDigit_35 : decode cX7_isDigit 35 = .ok (.invokeinterface 34 2, 5) := by decide +kernel
theorem dX7_isDigit_40 : decode cX7_isDigit 40 = .ok (.bipush 57, 2) := dk_16 57 (dk_at dksX7_isDigit_1 16 rfl rfl)
theorem dX7_isDigit_42 : decode cX7_isDigit 42 = .ok (.if_icmp .gt 7, 3) := dk_163 0 7 (dk_at dksX7_isDigit_1 18 rfl rfl)
theorem dX7_isDigit_45 : decode cX7_isDigit 45 = .ok (.iconst 1, 1) := dk_4 (dk_at dksX7_isDigit_1 21 rfl rfl)
theorem dX7_isDigit_46 : decode cX7_isDigit 46 = .ok (.goto 4, 3) := dk_167 0 4 (dk_at dksX7_isDigit_2 0 rfl rfl)
theorem dX7_isDigit_49 : decode cX7_isDigit 49 = .ok (.iconst 0, 1) := dk_3 (dk_at dksX7_isDigit_2 3 rfl rfl)
theorem dX7_isDigit_50 : decode cX7_isDigit 50 = .ok (.ireturn, 1) := dk_172 (dk_at dksX7_isDigit_2 4 rfl rfl)
theorem q82 : (Jvm.Cond.initialized "BlanketKeys$Reader") ∈ lw_all := lw_g (lw_at lw_m1 26 rfl) rfl
theorem q215 : (Jvm.Cond.selects "BlanketKeys$Reader" ({ cls := "java/lang/Object", name := "getClass", desc := "()Ljava/lang/Class;" } : Jvm.MethodName) ({ cls := "java/lang/Object", name := "getClass", desc := "()Ljava/lang/Class;" } : Jvm.MethodName)) ∈ lw_all := lw_g (lw_at lw_m1 159 rfl) rfl
theorem q858 : (Jvm.Cond.instantiable "BlanketKeys$Reader" (2 : Nat)) ∈ lw_all := lw_g (lw_at lw_m4 82 rfl) rfl
theorem q860 : (Jvm.Cond.instanceMethod ({ cls := "BlanketKeys$Reader", name := "<init>", desc := "(Ljava/lang/CharSequence;)V" } : Jvm.MethodName)) ∈ lw_all := lw_g (lw_at lw_m4 84 rfl) rfl
theorem q861 : (Jvm.Cond.code ({ cls := "BlanketKeys$Reader", name := "<init>", desc := "(Ljava/lang/CharSequence;)V" } : Jvm.MethodName) prog_5_method_1_code (2 : Nat) (Option.none : Option Jvm.ClassFile.FieldType)) ∈ lw_all := lw_g (lw_at lw_m4 85 rfl) rfl
theorem q862 : (Jvm.Cond.methodLink "BlanketKeys$Reader" (3 : Nat) ({ cls := "java/lang/Object", name := "<init>", desc := "()V" } : Jvm.MethodName)) ∈ lw_all := lw_g (lw_at lw_m4 86 rfl) rfl
theorem q863 : (Jvm.Cond.fieldLink "BlanketKeys$Reader" (9 : Nat) "BlanketKeys$Reader" "signs" "Ljava/lang/CharSequence;") ∈ lw_all := lw_g (lw_at lw_m4 87 rfl) rfl
theorem q864 : (Jvm.Cond.fieldLink "BlanketKeys$Reader" (15 : Nat) "BlanketKeys$Reader" "place" "I") ∈ lw_all := lw_g (lw_at lw_m4 88 rfl) rfl
theorem q865 : (Jvm.Cond.laysFinal "BlanketKeys$Reader" "BlanketKeys$Reader" "signs" "Ljava/lang/CharSequence;") ∈ lw_all := lw_g (lw_at lw_m4 89 rfl) rfl
theorem q866 : (Jvm.Cond.soleField "BlanketKeys$Reader" "signs") ∈ lw_all := lw_g (lw_at lw_m4 90 rfl) rfl
theorem q867 : (Jvm.Cond.lays "BlanketKeys$Reader" "BlanketKeys$Reader" "place" "I") ∈ lw_all := lw_g (lw_at lw_m4 91 rfl) rfl
theorem q868 : (Jvm.Cond.soleField "BlanketKeys$Reader" "place") ∈ lw_all := lw_g (lw_at lw_m4 92 rfl) rfl
theorem q869 : (Jvm.Cond.superclass "BlanketKeys$Reader" "java/lang/Object") ∈ lw_all := lw_g (lw_at lw_m4 93 rfl) rfl
theorem q871 : (Jvm.Cond.instanceMethod ({ cls := "BlanketKeys$Reader", name := "moves", desc := "()Ljava/util/List;" } : Jvm.MethodName)) ∈ lw_all := lw_g (lw_at lw_m4 95 rfl) rfl
theorem q872 : (Jvm.Cond.selects "BlanketKeys$Reader" ({ cls := "BlanketKeys$Reader", name := "moves", desc := "()Ljava/util/List;" } : Jvm.MethodName) ({ cls := "BlanketKeys$Reader", name := "moves", desc := "()Ljava/util/List;" } : Jvm.MethodName)) ∈ lw_all := lw_g (lw_at lw_m4 96 rfl) rfl
theorem q873 : (Jvm.Cond.code ({ cls := "BlanketKeys$Reader", name := "moves", desc := "()Ljava/util/List;" } : Jvm.MethodName) prog_5_method_7_code (2 : Nat) (Option.some (Jvm.ClassFile.FieldType.object "java/util/List"))) ∈ lw_all := lw_g (lw_at lw_m4 97 rfl) rfl
theorem q874 : (Jvm.Cond.classLink "BlanketKeys$Reader" (55 : Nat) "java/util/ArrayList") ∈ lw_all := lw_g (lw_at lw_m4 98 rfl) rfl
theorem q875 : (Jvm.Cond.methodLink "BlanketKeys$Reader" (57 : Nat) ({ cls := "java/util/ArrayList", name := "<init>", desc := "()V" } : Jvm.MethodName)) ∈ lw_all := lw_g (lw_at lw_m4 99 rfl) rfl
theorem q876 : (Jvm.Cond.methodLink "BlanketKeys$Reader" (58 : Nat) ({ cls := "BlanketKeys$Reader", name := "move", desc := "()LBlanketKeys$Move;" } : Jvm.MethodName)) ∈ lw_all := lw_g (lw_at lw_m4 100 rfl) rfl
theorem q877 : (Jvm.Cond.privateMethod ({ cls := "BlanketKeys$Reader", name := "move", desc := "()LBlanketKeys$Move;" } : Jvm.MethodName)) ∈ lw_tbl := lw_at lw_m4 101 rfl
theorem q878 : (Jvm.Cond.instanceMethod ({ cls := "BlanketKeys$Reader", name := "move", desc := "()LBlanketKeys$Move;" } : Jvm.MethodName)) ∈ lw_all := lw_g (lw_at lw_m4 102 rfl) rfl
theorem q879 : (Jvm.Cond.code ({ cls := "BlanketKeys$Reader", name := "move", desc := "()LBlanketKeys$Move;" } : Jvm.MethodName) prog_5_method_6_code (3 : Nat) (Option.some (Jvm.ClassFile.FieldType.object "BlanketKeys$Move"))) ∈ lw_all := lw_g (lw_at lw_m4 103 rfl) rfl
theorem q880 : (Jvm.Cond.methodLink "BlanketKeys$Reader" (42 : Nat) ({ cls := "BlanketKeys$Reader", name := "next", desc := "()C" } : Jvm.MethodName)) ∈ lw_all := lw_g (lw_at lw_m4 104 rfl) rfl
theorem q881 : (Jvm.Cond.privateMethod ({ cls := "BlanketKeys$Reader", name := "next", desc := "()C" } : Jvm.MethodName)) ∈ lw_tbl := lw_at lw_m4 105 rfl
theorem q882 : (Jvm.Cond.instanceMethod ({ cls := "BlanketKeys$Reader", name := "next", desc := "()C" } : Jvm.MethodName)) ∈ lw_all := lw_g (lw_at lw_m4 106 rfl) rfl
theorem q883 : (Jvm.Cond.code ({ cls := "BlanketKeys$Reader", name := "next", desc := "()C" } : Jvm.MethodName) prog_5_method_3_code (1 : Nat) (Option.some Jvm.ClassFile.FieldType.char)) ∈ lw_all := lw_g (lw_at lw_m4 107 rfl) rfl
theorem q884 : (Jvm.Cond.methodLink "BlanketKeys$Reader" (25 : Nat) ({ cls := "BlanketKeys$Reader", name := "isAtEnd", desc := "()Z" } : Jvm.MethodName)) ∈ lw_all := lw_g (lw_at lw_m4 108 rfl) rfl
theorem q885 : (Jvm.Cond.privateMethod ({ cls := "BlanketKeys$Reader", name := "isAtEnd", desc := "()Z" } : Jvm.MethodName)) ∈ lw_tbl := lw_at lw_m4 109 rfl
theorem q886 : (Jvm.Cond.instanceMethod ({ cls := "BlanketKeys$Reader", name := "isAtEnd", desc := "()Z" } : Jvm.MethodName)) ∈ lw_all := lw_g (lw_at lw_m4 110 rfl) rfl
theorem q887 : (Jvm.Cond.code ({ cls := "BlanketKeys$Reader", name := "isAtEnd", desc := "()Z" } : Jvm.MethodName) prog_5_method_2_code (1 : Nat) (Option.some Jvm.ClassFile.FieldType.boolean)) ∈ lw_all := lw_g (lw_at lw_m4 111 rfl) rfl
theorem q888 : (Jvm.Cond.interfaceEntry "BlanketKeys$Reader" (19 : Nat)) ∈ lw_tbl := lw_at lw_m4 112 rfl
theorem q889 : (Jvm.Cond.methodLink "BlanketKeys$Reader" (19 : Nat) ({ cls := "java/lang/CharSequence", name := "length", desc := "()I" } : Jvm.MethodName)) ∈ lw_all := lw_g (lw_at lw_m4 113 rfl) rfl
theorem q896 : (Jvm.Cond.classLink "BlanketKeys$Reader" (29 : Nat) "BlanketKeys$TextFault") ∈ lw_all := lw_g (lw_at lw_m4 120 rfl) rfl
theorem q933 : (Jvm.Cond.methodLink "BlanketKeys$Reader" (31 : Nat) ({ cls := "BlanketKeys$TextFault", name := "<init>", desc := "(I)V" } : Jvm.MethodName)) ∈ lw_all := lw_g (lw_at lw_m4 157 rfl) rfl
theorem q956 : (Jvm.Cond.interfaceEntry "BlanketKeys$Reader" (34 : Nat)) ∈ lw_tbl := lw_at lw_m4 180 rfl
theorem q957 : (Jvm.Cond.methodLink "BlanketKeys$Reader" (34 : Nat) ({ cls := "java/lang/CharSequence", name := "charAt", desc := "(I)C" } : Jvm.MethodName)) ∈ lw_all := lw_g (lw_at lw_m4 181 rfl) rfl
theorem q973 : (Jvm.Cond.classLink "BlanketKeys$Reader" (46 : Nat) "BlanketKeys$Move") ∈ lw_all := lw_g (lw_at lw_m4 197 rfl) rfl
theorem q975 : (Jvm.Cond.methodLink "BlanketKeys$Reader" (48 : Nat) ({ cls := "BlanketKeys$Reader", name := "number", desc := "(I)I" } : Jvm.MethodName)) ∈ lw_all := lw_g (lw_at lw_m4 199 rfl) rfl
theorem q976 : (Jvm.Cond.privateMethod ({ cls := "BlanketKeys$Reader", name := "number", desc := "(I)I" } : Jvm.MethodName)) ∈ lw_tbl := lw_at lw_m4 200 rfl
theorem q977 : (Jvm.Cond.instanceMethod ({ cls := "BlanketKeys$Reader", name := "number", desc := "(I)I" } : Jvm.MethodName)) ∈ lw_all := lw_g (lw_at lw_m4 201 rfl) rfl
theorem q978 : (Jvm.Cond.code ({ cls := "BlanketKeys$Reader", name := "number", desc := "(I)I" } : Jvm.MethodName) prog_5_method_5_code (3 : Nat) (Option.some Jvm.ClassFile.FieldType.int)) ∈ lw_all := lw_g (lw_at lw_m4 202 rfl) rfl
theorem q979 : (Jvm.Cond.methodLink "BlanketKeys$Reader" (38 : Nat) ({ cls := "BlanketKeys$Reader", name := "isDigit", desc := "(I)Z" } : Jvm.MethodName)) ∈ lw_all := lw_g (lw_at lw_m4 203 rfl) rfl
theorem q980 : (Jvm.Cond.privateMethod ({ cls := "BlanketKeys$Reader", name := "isDigit", desc := "(I)Z" } : Jvm.MethodName)) ∈ lw_tbl := lw_at lw_m4 204 rfl
theorem q981 : (Jvm.Cond.instanceMethod ({ cls := "BlanketKeys$Reader", name := "isDigit", desc := "(I)Z" } : Jvm.MethodName)) ∈ lw_all := lw_g (lw_at lw_m4 205 rfl) rfl
theorem q982 : (Jvm.Cond.code ({ cls := "BlanketKeys$Reader", name := "isDigit", desc := "(I)Z" } : Jvm.MethodName) prog_5_method_4_code (2 : Nat) (Option.some Jvm.ClassFile.FieldType.boolean)) ∈ lw_all := lw_g (lw_at lw_m4 206 rfl) rfl
theorem q983 : (Jvm.Cond.methodLink "BlanketKeys$Reader" (52 : Nat) ({ cls := "BlanketKeys$Move", name := "<init>", desc := "(IZI)V" } : Jvm.MethodName)) ∈ lw_all := lw_g (lw_at lw_m4 207 rfl) rfl
theorem q1000 : (Jvm.Cond.interfaceEntry "BlanketKeys$Reader" (62 : Nat)) ∈ lw_tbl := lw_at lw_m4 224 rfl
theorem q1001 : (Jvm.Cond.methodLink "BlanketKeys$Reader" (62 : Nat) ({ cls := "java/util/List", name := "add", desc := "(Ljava/lang/Object;)Z" } : Jvm.MethodName)) ∈ lw_all := lw_g (lw_at lw_m4 225 rfl) rfl
theorem q1460 : (Jvm.Cond.castable "BlanketKeys$Reader" "java/lang/Object") ∈ lw_tbl := lw_at lw_m6 204 rfl
theorem in_X7 : ∀ w ∈ wsX70, w ∈ lw_all := lw_in wsX70 [865, 867] (by decide +kernel) (by decide +kernel)
/-! BlanketKeys$TextFault -/
set_option maxRecDepth 100000
def RX8 : String := "BlanketKeys$TextFault"
def TX8 : u_T := fun k => match k with
  | 0 => ("java/lang/Throwable", "cause", "Ljava/lang/Throwable;", false)
  | 1 => ("java/lang/Throwable", "stackTrace", "[Ljava/lang/StackTraceElement;", false)
  | 2 => ("java/lang/Throwable", "suppressedExceptions", "Ljava/util/List;", false)
  | 3 => ("java/lang/Throwable", "detailMessage", "Ljava/lang/String;", false)
  | 4 => ("java/lang/Throwable", "backtrace", "Ljava/lang/Object;", false)
  | 5 => ("java/lang/Throwable", "depth", "I", false)
  | _ => ("BlanketKeys$TextFault", "place", "I", true)
def tyX8 : Nat → FieldType := fun k => match k with
  | 0 => .object "java/lang/Throwable"
  | 1 => .array (.object "java/lang/StackTraceElement")
  | 2 => .object "java/util/List"
  | 3 => .object "java/lang/String"
  | 4 => .object "java/lang/Object"
  | 5 => .int
  | _ => .int
abbrev wsX80 : List Cond := u_ws RX8 TX8 7
theorem nmX8 : ∀ a, a < 7 → ∀ b, b < 7 → a ≠ b → (TX8 a).2.1 ≠ (TX8 b).2.1 := by decide +kernel
theorem tyX8_ok : ∀ k, k < 7 → parseFieldDescriptor (TX8 k).2.2.1 = some (tyX8 k) := by decide +kernel
abbrev cX8_init : ByteArray := prog_9_method_1_code
def yX8_init : MethodName := ⟨RX8, "<init>", "(I)V"⟩
def dkwX8_init_0 : List UInt8 := [42, 183, 0, 1, 42, 27, 181, 0, 7, 177]
abbrev dktX8_init_0 : List UInt8 := dkwX8_init_0 ++ []
theorem dksX8_init_0 : cX8_init.data.toList.drop 0 = dktX8_init_0 := by decide +kernel
theorem dX8_init_0 : decode cX8_init 0 = .ok (.aload_n 0, 1) := dk_42 (dk_at dksX8_init_0 0 rfl rfl)
theorem dX8_init_1 : decode cX8_init 1 = .ok (.invokespecial 1, 3) := dk_183 0 1 (dk_at dksX8_init_0 1 rfl rfl)
theorem dX8_init_4 : decode cX8_init 4 = .ok (.aload_n 0, 1) := dk_42 (dk_at dksX8_init_0 4 rfl rfl)
theorem dX8_init_5 : decode cX8_init 5 = .ok (.iload_n 1, 1) := dk_27 (dk_at dksX8_init_0 5 rfl rfl)
theorem dX8_init_6 : decode cX8_init 6 = .ok (.putfield 7, 3) := dk_181 0 7 (dk_at dksX8_init_0 6 rfl rfl)
theorem dX8_init_9 : decode cX8_init 9 = .ok (.return_, 1) := dk_177 (dk_at dksX8_init_0 9 rfl rfl)
theorem q85 : (Jvm.Cond.initialized "BlanketKeys$TextFault") ∈ lw_all := lw_g (lw_at lw_m1 29 rfl) rfl
theorem q219 : (Jvm.Cond.selects "BlanketKeys$TextFault" ({ cls := "java/lang/Object", name := "getClass", desc := "()Ljava/lang/Class;" } : Jvm.MethodName) ({ cls := "java/lang/Object", name := "getClass", desc := "()Ljava/lang/Class;" } : Jvm.MethodName)) ∈ lw_all := lw_g (lw_at lw_m1 163 rfl) rfl
theorem q897 : (Jvm.Cond.instantiable "BlanketKeys$TextFault" (7 : Nat)) ∈ lw_all := lw_g (lw_at lw_m4 121 rfl) rfl
theorem q898 : (Jvm.Cond.castable "BlanketKeys$TextFault" "BlanketKeys$TextFault") ∈ lw_tbl := lw_at lw_m4 122 rfl
theorem q903 : (Jvm.Cond.selects "BlanketKeys$TextFault" ({ cls := "java/lang/Throwable", name := "fillInStackTrace", desc := "(I)Ljava/lang/Throwable;" } : Jvm.MethodName) ({ cls := "java/lang/Throwable", name := "fillInStackTrace", desc := "(I)Ljava/lang/Throwable;" } : Jvm.MethodName)) ∈ lw_all := lw_g (lw_at lw_m4 127 rfl) rfl
theorem q904 : (Jvm.Cond.selects "BlanketKeys$TextFault" ({ cls := "java/lang/Throwable", name := "fillInStackTrace", desc := "()Ljava/lang/Throwable;" } : Jvm.MethodName) ({ cls := "java/lang/Throwable", name := "fillInStackTrace", desc := "()Ljava/lang/Throwable;" } : Jvm.MethodName)) ∈ lw_all := lw_g (lw_at lw_m4 128 rfl) rfl
theorem q905 : (Jvm.Cond.lays "BlanketKeys$TextFault" "java/lang/Throwable" "cause" "Ljava/lang/Throwable;") ∈ lw_all := lw_g (lw_at lw_m4 129 rfl) rfl
theorem q907 : (Jvm.Cond.lays "BlanketKeys$TextFault" "java/lang/Throwable" "stackTrace" "[Ljava/lang/StackTraceElement;") ∈ lw_all := lw_g (lw_at lw_m4 131 rfl) rfl
theorem q909 : (Jvm.Cond.lays "BlanketKeys$TextFault" "java/lang/Throwable" "suppressedExceptions" "Ljava/util/List;") ∈ lw_all := lw_g (lw_at lw_m4 133 rfl) rfl
theorem q911 : (Jvm.Cond.lays "BlanketKeys$TextFault" "java/lang/Throwable" "detailMessage" "Ljava/lang/String;") ∈ lw_all := lw_g (lw_at lw_m4 135 rfl) rfl
theorem q913 : (Jvm.Cond.lays "BlanketKeys$TextFault" "java/lang/Throwable" "backtrace" "Ljava/lang/Object;") ∈ lw_all := lw_g (lw_at lw_m4 137 rfl) rfl
theorem q934 : (Jvm.Cond.instanceMethod ({ cls := "BlanketKeys$TextFault", name := "<init>", desc := "(I)V" } : Jvm.MethodName)) ∈ lw_all := lw_g (lw_at lw_m4 158 rfl) rfl
theorem q935 : (Jvm.Cond.code ({ cls := "BlanketKeys$TextFault", name := "<init>", desc := "(I)V" } : Jvm.MethodName) prog_9_method_1_code (2 : Nat) (Option.none : Option Jvm.ClassFile.FieldType)) ∈ lw_all := lw_g (lw_at lw_m4 159 rfl) rfl
theorem q936 : (Jvm.Cond.methodLink "BlanketKeys$TextFault" (1 : Nat) ({ cls := "java/lang/Exception", name := "<init>", desc := "()V" } : Jvm.MethodName)) ∈ lw_all := lw_g (lw_at lw_m4 160 rfl) rfl
theorem q940 : (Jvm.Cond.fieldLink "BlanketKeys$TextFault" (7 : Nat) "BlanketKeys$TextFault" "place" "I") ∈ lw_all := lw_g (lw_at lw_m4 164 rfl) rfl
theorem q946 : (Jvm.Cond.laysFinal "BlanketKeys$TextFault" "BlanketKeys$TextFault" "place" "I") ∈ lw_all := lw_g (lw_at lw_m4 170 rfl) rfl
theorem q947 : (Jvm.Cond.soleField "BlanketKeys$TextFault" "place") ∈ lw_all := lw_g (lw_at lw_m4 171 rfl) rfl
theorem q952 : (Jvm.Cond.lays "BlanketKeys$TextFault" "java/lang/Throwable" "depth" "I") ∈ lw_all := lw_g (lw_at lw_m4 176 rfl) rfl
theorem q955 : (Jvm.Cond.superclass "BlanketKeys$TextFault" "java/lang/Exception") ∈ lw_all := lw_g (lw_at lw_m4 179 rfl) rfl
theorem q1461 : (Jvm.Cond.castable "BlanketKeys$TextFault" "java/lang/Object") ∈ lw_tbl := lw_at lw_m6 205 rfl
theorem in_X8 : ∀ w ∈ wsX80, w ∈ lw_all := lw_in wsX80 [905, 907, 909, 911, 913, 952, 946] (by decide +kernel) (by decide +kernel)
/-! BlanketKeys$Move -/
set_option maxRecDepth 100000
def RX9 : String := "BlanketKeys$Move"
def TX9 : u_T := fun k => match k with
  | 0 => ("BlanketKeys$Move", "typist", "I", true)
  | 1 => ("BlanketKeys$Move", "isDown", "Z", true)
  | _ => ("BlanketKeys$Move", "number", "I", true)
def tyX9 : Nat → FieldType := fun k => match k with
  | 0 => .int
  | 1 => .boolean
  | _ => .int
abbrev wsX90 : List Cond := u_ws RX9 TX9 3
theorem nmX9 : ∀ a, a < 3 → ∀ b, b < 3 → a ≠ b → (TX9 a).2.1 ≠ (TX9 b).2.1 := by decide +kernel
theorem tyX9_ok : ∀ k, k < 3 → parseFieldDescriptor (TX9 k).2.2.1 = some (tyX9 k) := by decide +kernel
abbrev cX9_init : ByteArray := prog_4_method_1_code
def yX9_init : MethodName := ⟨RX9, "<init>", "(IZI)V"⟩
def dkwX9_init_0 : List UInt8 := [42, 183, 0, 1, 42, 27, 181, 0, 7, 42, 28, 181, 0, 13, 42, 29, 181, 0, 17, 177]
abbrev dktX9_init_0 : List UInt8 := dkwX9_init_0 ++ []
theorem dksX9_init_0 : cX9_init.data.toList.drop 0 = dktX9_init_0 := by decide +kernel
theorem dX9_init_0 : decode cX9_init 0 = .ok (.aload_n 0, 1) := dk_42 (dk_at dksX9_init_0 0 rfl rfl)
theorem dX9_init_1 : decode cX9_init 1 = .ok (.invokespecial 1, 3) := dk_183 0 1 (dk_at dksX9_init_0 1 rfl rfl)
theorem dX9_init_4 : decode cX9_init 4 = .ok (.aload_n 0, 1) := dk_42 (dk_at dksX9_init_0 4 rfl rfl)
theorem dX9_init_5 : decode cX9_init 5 = .ok (.iload_n 1, 1) := dk_27 (dk_at dksX9_init_0 5 rfl rfl)
theorem dX9_init_6 : decode cX9_init 6 = .ok (.putfield 7, 3) := dk_181 0 7 (dk_at dksX9_init_0 6 rfl rfl)
theorem dX9_init_9 : decode cX9_init 9 = .ok (.aload_n 0, 1) := dk_42 (dk_at dksX9_init_0 9 rfl rfl)
theorem dX9_init_10 : decode cX9_init 10 = .ok (.iload_n 2, 1) := dk_28 (dk_at dksX9_init_0 10 rfl rfl)
theorem dX9_init_11 : decode cX9_init 11 = .ok (.putfield 13, 3) := dk_181 0 13 (dk_at dksX9_init_0 11 rfl rfl)
theorem dX9_init_14 : decode cX9_init 14 = .ok (.aload_n 0, 1) := dk_42 (dk_at dksX9_init_0 14 rfl rfl)
theorem dX9_init_15 : decode cX9_init 15 = .ok (.iload_n 3, 1) := dk_29 (dk_at dksX9_init_0 15 rfl rfl)
theorem dX9_init_16 : decode cX9_init 16 = .ok (.putfield 17, 3) := dk_181 0 17 (dk_at dksX9_init_0 16 rfl rfl)
theorem dX9_init_19 : decode cX9_init 19 = .ok (.return_, 1) := dk_177 (dk_at dksX9_init_0 19 rfl rfl)
theorem q86 : (Jvm.Cond.initialized "BlanketKeys$Move") ∈ lw_all := lw_g (lw_at lw_m1 30 rfl) rfl
theorem q214 : (Jvm.Cond.selects "BlanketKeys$Move" ({ cls := "java/lang/Object", name := "getClass", desc := "()Ljava/lang/Class;" } : Jvm.MethodName) ({ cls := "java/lang/Object", name := "getClass", desc := "()Ljava/lang/Class;" } : Jvm.MethodName)) ∈ lw_all := lw_g (lw_at lw_m1 158 rfl) rfl
theorem q974 : (Jvm.Cond.instantiable "BlanketKeys$Move" (3 : Nat)) ∈ lw_all := lw_g (lw_at lw_m4 198 rfl) rfl
theorem q984 : (Jvm.Cond.instanceMethod ({ cls := "BlanketKeys$Move", name := "<init>", desc := "(IZI)V" } : Jvm.MethodName)) ∈ lw_all := lw_g (lw_at lw_m4 208 rfl) rfl
theorem q985 : (Jvm.Cond.code ({ cls := "BlanketKeys$Move", name := "<init>", desc := "(IZI)V" } : Jvm.MethodName) prog_4_method_1_code (4 : Nat) (Option.none : Option Jvm.ClassFile.FieldType)) ∈ lw_all := lw_g (lw_at lw_m4 209 rfl) rfl
theorem q986 : (Jvm.Cond.methodLink "BlanketKeys$Move" (1 : Nat) ({ cls := "java/lang/Object", name := "<init>", desc := "()V" } : Jvm.MethodName)) ∈ lw_all := lw_g (lw_at lw_m4 210 rfl) rfl
theorem q987 : (Jvm.Cond.fieldLink "BlanketKeys$Move" (7 : Nat) "BlanketKeys$Move" "typist" "I") ∈ lw_all := lw_g (lw_at lw_m4 211 rfl) rfl
theorem q989 : (Jvm.Cond.fieldLink "BlanketKeys$Move" (13 : Nat) "BlanketKeys$Move" "isDown" "Z") ∈ lw_all := lw_g (lw_at lw_m4 213 rfl) rfl
theorem q991 : (Jvm.Cond.fieldLink "BlanketKeys$Move" (17 : Nat) "BlanketKeys$Move" "number" "I") ∈ lw_all := lw_g (lw_at lw_m4 215 rfl) rfl
theorem q993 : (Jvm.Cond.laysFinal "BlanketKeys$Move" "BlanketKeys$Move" "typist" "I") ∈ lw_all := lw_g (lw_at lw_m4 217 rfl) rfl
theorem q994 : (Jvm.Cond.soleField "BlanketKeys$Move" "typist") ∈ lw_all := lw_g (lw_at lw_m4 218 rfl) rfl
theorem q995 : (Jvm.Cond.laysFinal "BlanketKeys$Move" "BlanketKeys$Move" "isDown" "Z") ∈ lw_all := lw_g (lw_at lw_m4 219 rfl) rfl
theorem q996 : (Jvm.Cond.soleField "BlanketKeys$Move" "isDown") ∈ lw_all := lw_g (lw_at lw_m4 220 rfl) rfl
theorem q997 : (Jvm.Cond.laysFinal "BlanketKeys$Move" "BlanketKeys$Move" "number" "I") ∈ lw_all := lw_g (lw_at lw_m4 221 rfl) rfl
theorem q998 : (Jvm.Cond.soleField "BlanketKeys$Move" "number") ∈ lw_all := lw_g (lw_at lw_m4 222 rfl) rfl
theorem q999 : (Jvm.Cond.superclass "BlanketKeys$Move" "java/lang/Object") ∈ lw_all := lw_g (lw_at lw_m4 223 rfl) rfl
theorem q1462 : (Jvm.Cond.castable "BlanketKeys$Move" "java/lang/Object") ∈ lw_tbl := lw_at lw_m6 206 rfl
theorem in_X9 : ∀ w ∈ wsX90, w ∈ lw_all := lw_in wsX90 [993, 995, 997] (by decide +kernel) (by decide +kernel)
